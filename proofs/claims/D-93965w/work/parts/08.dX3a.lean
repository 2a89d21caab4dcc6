set_option maxRecDepth 100000
abbrev cX3_init : ByteArray := prog_34_method_3_code
def yX3_init : MethodName := ⟨RX3, "<init>", "()V"⟩
def dkwX3_init_17 : List UInt8 := [2, 181, 0, 150, 177]
abbrev dktX3_init_17 : List UInt8 := dkwX3_init_17 ++ []
def dkwX3_init_16 : List UInt8 := [42, 180, 0, 130, 27, 2, 79, 132, 1, 1, 167, 255, 240, 42, 2, 181, 0, 143, 42, 6, 181, 0, 147, 42]
abbrev dktX3_init_16 : List UInt8 := dkwX3_init_16 ++ dktX3_init_17
def dkwX3_init_15 : List UInt8 := [17, 1, 104, 188, 11, 181, 0, 136, 42, 16, 60, 188, 11, 181, 0, 140, 3, 60, 27, 16, 6, 162, 0, 16]
abbrev dktX3_init_15 : List UInt8 := dkwX3_init_15 ++ dktX3_init_16
def dkwX3_init_14 : List UInt8 := [188, 10, 181, 0, 127, 42, 16, 6, 188, 10, 181, 0, 130, 42, 16, 6, 188, 10, 181, 0, 133, 42]
abbrev dktX3_init_14 : List UInt8 := dkwX3_init_14 ++ dktX3_init_15
def dkwX3_init_13 : List UInt8 := [188, 10, 181, 0, 118, 42, 16, 10, 188, 10, 181, 0, 121, 42, 16, 50, 188, 10, 181, 0, 124, 42, 16, 24]
abbrev dktX3_init_13 : List UInt8 := dkwX3_init_13 ++ dktX3_init_14
def dkwX3_init_12 : List UInt8 := [188, 10, 181, 0, 109, 42, 16, 6, 188, 10, 181, 0, 112, 42, 16, 20, 188, 10, 181, 0, 115, 42, 16, 20]
abbrev dktX3_init_12 : List UInt8 := dkwX3_init_12 ++ dktX3_init_13
def dkwX3_init_11 : List UInt8 := [181, 0, 100, 42, 17, 0, 200, 188, 10, 181, 0, 103, 42, 17, 0, 200, 188, 10, 181, 0, 106, 42, 16, 6]
abbrev dktX3_init_11 : List UInt8 := dkwX3_init_11 ++ dktX3_init_12
def dkwX3_init_10 : List UInt8 := [17, 0, 200, 188, 10, 181, 0, 94, 42, 17, 0, 200, 188, 10, 181, 0, 97, 42, 17, 0, 200, 188, 10]
abbrev dktX3_init_10 : List UInt8 := dkwX3_init_10 ++ dktX3_init_11
def dkwX3_init_9 : List UInt8 := [188, 10, 181, 0, 85, 42, 17, 0, 200, 188, 10, 181, 0, 88, 42, 17, 0, 200, 188, 10, 181, 0, 91, 42]
abbrev dktX3_init_9 : List UInt8 := dkwX3_init_9 ++ dktX3_init_10
def dkwX3_init_8 : List UInt8 := [181, 0, 76, 42, 17, 0, 200, 188, 10, 181, 0, 79, 42, 17, 0, 200, 188, 10, 181, 0, 82, 42, 16, 10]
abbrev dktX3_init_8 : List UInt8 := dkwX3_init_8 ++ dktX3_init_9
def dkwX3_init_7 : List UInt8 := [17, 0, 200, 188, 10, 181, 0, 70, 42, 17, 0, 200, 188, 10, 181, 0, 73, 42, 17, 0, 200, 188, 10]
abbrev dktX3_init_7 : List UInt8 := dkwX3_init_7 ++ dktX3_init_8
def dkwX3_init_6 : List UInt8 := [188, 10, 181, 0, 61, 42, 17, 0, 200, 188, 10, 181, 0, 64, 42, 17, 0, 200, 188, 10, 181, 0, 67, 42]
abbrev dktX3_init_6 : List UInt8 := dkwX3_init_6 ++ dktX3_init_7
def dkwX3_init_5 : List UInt8 := [188, 10, 181, 0, 52, 42, 16, 20, 188, 10, 181, 0, 55, 42, 16, 6, 188, 10, 181, 0, 58, 42, 16, 6]
abbrev dktX3_init_5 : List UInt8 := dkwX3_init_5 ++ dktX3_init_6
def dkwX3_init_4 : List UInt8 := [188, 10, 181, 0, 43, 42, 16, 10, 188, 10, 181, 0, 46, 42, 16, 10, 188, 10, 181, 0, 49, 42, 16, 20]
abbrev dktX3_init_4 : List UInt8 := dkwX3_init_4 ++ dktX3_init_5
def dkwX3_init_3 : List UInt8 := [188, 10, 181, 0, 34, 42, 16, 120, 188, 10, 181, 0, 37, 42, 16, 8, 188, 10, 181, 0, 40, 42, 16, 10]
abbrev dktX3_init_3 : List UInt8 := dkwX3_init_3 ++ dktX3_init_4
def dkwX3_init_2 : List UInt8 := [188, 10, 181, 0, 25, 42, 16, 20, 188, 10, 181, 0, 28, 42, 16, 20, 188, 10, 181, 0, 31, 42, 16, 120]
abbrev dktX3_init_2 : List UInt8 := dkwX3_init_2 ++ dktX3_init_3
def dkwX3_init_1 : List UInt8 := [188, 10, 181, 0, 16, 42, 16, 40, 188, 10, 181, 0, 19, 42, 16, 10, 188, 10, 181, 0, 22, 42, 16, 20]
abbrev dktX3_init_1 : List UInt8 := dkwX3_init_1 ++ dktX3_init_2
def dkwX3_init_0 : List UInt8 := [42, 183, 0, 3, 42, 16, 42, 188, 10, 181, 0, 9, 42, 16, 40, 188, 10, 181, 0, 13, 42, 16, 40]
abbrev dktX3_init_0 : List UInt8 := dkwX3_init_0 ++ dktX3_init_1
theorem dksX3_init_0 : cX3_init.data.toList.drop 0 = dktX3_init_0 := by decide +kernel
theorem dksX3_init_1 : cX3_init.data.toList.drop 23 = dktX3_init_1 := dk_seg dksX3_init_0 23 rfl rfl
theorem dksX3_init_2 : cX3_init.data.toList.drop 47 = dktX3_init_2 := dk_seg dksX3_init_1 24 rfl rfl
theorem dksX3_init_3 : cX3_init.data.toList.drop 71 = dktX3_init_3 := dk_seg dksX3_init_2 24 rfl rfl
theorem dksX3_init_4 : cX3_init.data.toList.drop 95 = dktX3_init_4 := dk_seg dksX3_init_3 24 rfl rfl
theorem dksX3_init_5 : cX3_init.data.toList.drop 119 = dktX3_init_5 := dk_seg dksX3_init_4 24 rfl rfl
theorem dksX3_init_6 : cX3_init.data.toList.drop 143 = dktX3_init_6 := dk_seg dksX3_init_5 24 rfl rfl
theorem dksX3_init_7 : cX3_init.data.toList.drop 167 = dktX3_init_7 := dk_seg dksX3_init_6 24 rfl rfl
theorem dksX3_init_8 : cX3_init.data.toList.drop 190 = dktX3_init_8 := dk_seg dksX3_init_7 23 rfl rfl
theorem dksX3_init_9 : cX3_init.data.toList.drop 214 = dktX3_init_9 := dk_seg dksX3_init_8 24 rfl rfl
theorem dksX3_init_10 : cX3_init.data.toList.drop 238 = dktX3_init_10 := dk_seg dksX3_init_9 24 rfl rfl
theorem dksX3_init_11 : cX3_init.data.toList.drop 261 = dktX3_init_11 := dk_seg dksX3_init_10 23 rfl rfl
theorem dksX3_init_12 : cX3_init.data.toList.drop 285 = dktX3_init_12 := dk_seg dksX3_init_11 24 rfl rfl
theorem dksX3_init_13 : cX3_init.data.toList.drop 309 = dktX3_init_13 := dk_seg dksX3_init_12 24 rfl rfl
theorem dksX3_init_14 : cX3_init.data.toList.drop 333 = dktX3_init_14 := dk_seg dksX3_init_13 24 rfl rfl
theorem dksX3_init_15 : cX3_init.data.toList.drop 355 = dktX3_init_15 := dk_seg dksX3_init_14 22 rfl rfl
theorem dksX3_init_16 : cX3_init.data.toList.drop 379 = dktX3_init_16 := dk_seg dksX3_init_15 24 rfl rfl
theorem dksX3_init_17 : cX3_init.data.toList.drop 403 = dktX3_init_17 := dk_seg dksX3_init_16 24 rfl rfl
theorem dX3_init_0 : decode cX3_init 0 = .ok (.aload_n 0, 1) := dk_42 (dk_at dksX3_init_0 0 rfl rfl)
theorem dX3_init_1 : decode cX3_init 1 = .ok (.invokespecial 3, 3) := dk_183 0 3 (dk_at dksX3_init_0 1 rfl rfl)
theorem dX3_init_4 : decode cX3_init 4 = .ok (.aload_n 0, 1) := dk_42 (dk_at dksX3_init_0 4 rfl rfl)
theorem dX3_init_5 : decode cX3_init 5 = .ok (.bipush 42, 2) := dk_16 42 (dk_at dksX3_init_0 5 rfl rfl)
theorem dX3_init_7 : decode cX3_init 7 = .ok (.newarray .int, 2) := dk_188_10 (dk_at dksX3_init_0 7 rfl rfl)
theorem dX3_init_9 : decode cX3_init 9 = .ok (.putfield 9, 3) := dk_181 0 9 (dk_at dksX3_init_0 9 rfl rfl)
theorem dX3_init_12 : decode cX3_init 12 = .ok (.aload_n 0, 1) := dk_42 (dk_at dksX3_init_0 12 rfl rfl)
theorem dX3_init_13 : decode cX3_init 13 = .ok (.bipush 40, 2) := dk_16 40 (dk_at dksX3_init_0 13 rfl rfl)
theorem dX3_init_15 : decode cX3_init 15 = .ok (.newarray .int, 2) := dk_188_10 (dk_at dksX3_init_0 15 rfl rfl)
theorem dX3_init_17 : decode cX3_init 17 = .ok (.putfield 13, 3) := dk_181 0 13 (dk_at dksX3_init_0 17 rfl rfl)
theorem dX3_init_20 : decode cX3_init 20 = .ok (.aload_n 0, 1) := dk_42 (dk_at dksX3_init_0 20 rfl rfl)
theorem dX3_init_21 : decode cX3_init 21 = .ok (.bipush 40, 2) := dk_16 40 (dk_at dksX3_init_0 21 rfl rfl)
theorem dX3_init_23 : decode cX3_init 23 = .ok (.newarray .int, 2) := dk_188_10 (dk_at dksX3_init_1 0 rfl rfl)
theorem dX3_init_25 : decode cX3_init 25 = .ok (.putfield 16, 3) := dk_181 0 16 (dk_at dksX3_init_1 2 rfl rfl)
theorem dX3_init_28 : decode cX3_init 28 = .ok (.aload_n 0, 1) := dk_42 (dk_at dksX3_init_1 5 rfl rfl)
theorem dX3_init_29 : decode cX3_init 29 = .ok (.bipush 40, 2) := dk_16 40 (dk_at dksX3_init_1 6 rfl rfl)
theorem dX3_init_31 : decode cX3_init 31 = .ok (.newarray .int, 2) := dk_188_10 (dk_at dksX3_init_1 8 rfl rfl)
theorem dX3_init_33 : decode cX3_init 33 = .ok (.putfield 19, 3) := dk_181 0 19 (dk_at dksX3_init_1 10 rfl rfl)
theorem dX3_init_36 : decode cX3_init 36 = .ok (.aload_n 0, 1) := dk_42 (dk_at dksX3_init_1 13 rfl rfl)
theorem dX3_init_37 : decode cX3_init 37 = .ok (.bipush 10, 2) := dk_16 10 (dk_at dksX3_init_1 14 rfl rfl)
theorem dX3_init_39 : decode cX3_init 39 = .ok (.newarray .int, 2) := dk_188_10 (dk_at dksX3_init_1 16 rfl rfl)
theorem dX3_init_41 : decode cX3_init 41 = .ok (.putfield 22, 3) := dk_181 0 22 (dk_at dksX3_init_1 18 rfl rfl)
theorem dX3_init_44 : decode cX3_init 44 = .ok (.aload_n 0, 1) := dk_42 (dk_at dksX3_init_1 21 rfl rfl)
theorem dX3_init_45 : decode cX3_init 45 = .ok (.bipush 20, 2) := dk_16 20 (dk_at dksX3_init_1 22 rfl rfl)
theorem dX3_init_47 : decode cX3_init 47 = .ok (.newarray .int, 2) := dk_188_10 (dk_at dksX3_init_2 0 rfl rfl)
theorem dX3_init_49 : decode cX3_init 49 = .ok (.putfield 25, 3) := dk_181 0 25 (dk_at dksX3_init_2 2 rfl rfl)
theorem dX3_init_52 : decode cX3_init 52 = .ok (.aload_n 0, 1) := dk_42 (dk_at dksX3_init_2 5 rfl rfl)
theorem dX3_init_53 : decode cX3_init 53 = .ok (.bipush 20, 2) := dk_16 20 (dk_at dksX3_init_2 6 rfl rfl)
theorem dX3_init_55 : decode cX3_init 55 = .ok (.newarray .int, 2) := dk_188_10 (dk_at dksX3_init_2 8 rfl rfl)
theorem dX3_init_57 : decode cX3_init 57 = .ok (.putfield 28, 3) := dk_181 0 28 (dk_at dksX3_init_2 10 rfl rfl)
theorem dX3_init_60 : decode cX3_init 60 = .ok (.aload_n 0, 1) := dk_42 (dk_at dksX3_init_2 13 rfl rfl)
theorem dX3_init_61 : decode cX3_init 61 = .ok (.bipush 20, 2) := dk_16 20 (dk_at dksX3_init_2 14 rfl rfl)
theorem dX3_init_63 : decode cX3_init 63 = .ok (.newarray .int, 2) := dk_188_10 (dk_at dksX3_init_2 16 rfl rfl)
theorem dX3_init_65 : decode cX3_init 65 = .ok (.putfield 31, 3) := dk_181 0 31 (dk_at dksX3_init_2 18 rfl rfl)
theorem dX3_init_68 : decode cX3_init 68 = .ok (.aload_n 0, 1) := dk_42 (dk_at dksX3_init_2 21 rfl rfl)
theorem dX3_init_69 : decode cX3_init 69 = .ok (.bipush 120, 2) := dk_16 120 (dk_at dksX3_init_2 22 rfl rfl)
theorem dX3_init_71 : decode cX3_init 71 = .ok (.newarray .int, 2) := dk_188_10 (dk_at dksX3_init_3 0 rfl rfl)
theorem dX3_init_73 : decode cX3_init 73 = .ok (.putfield 34, 3) := dk_181 0 34 (dk_at dksX3_init_3 2 rfl rfl)
theorem dX3_init_76 : decode cX3_init 76 = .ok (.aload_n 0, 1) := dk_42 (dk_at dksX3_init_3 5 rfl rfl)
theorem dX3_init_77 : decode cX3_init 77 = .ok (.bipush 120, 2) := dk_16 120 (dk_at dksX3_init_3 6 rfl rfl)
theorem dX3_init_79 : decode cX3_init 79 = .ok (.newarray .int, 2) := dk_188_10 (dk_at dksX3_init_3 8 rfl rfl)
theorem dX3_init_81 : decode cX3_init 81 = .ok (.putfield 37, 3) := dk_181 0 37 (dk_at dksX3_init_3 10 rfl rfl)
theorem dX3_init_84 : decode cX3_init 84 = .ok (.aload_n 0, 1) := dk_42 (dk_at dksX3_init_3 13 rfl rfl)
theorem dX3_init_85 : decode cX3_init 85 = .ok (.bipush 8, 2) := dk_16 8 (dk_at dksX3_init_3 14 rfl rfl)
theorem dX3_init_87 : decode cX3_init 87 = .ok (.newarray .int, 2) := dk_188_10 (dk_at dksX3_init_3 16 rfl rfl)
theorem dX3_init_89 : decode cX3_init 89 = .ok (.putfield 40, 3) := dk_181 0 40 (dk_at dksX3_init_3 18 rfl rfl)
theorem dX3_init_92 : decode cX3_init 92 = .ok (.aload_n 0, 1) := dk_42 (dk_at dksX3_init_3 21 rfl rfl)
theorem dX3_init_93 : decode cX3_init 93 = .ok (.bipush 10, 2) := dk_16 10 (dk_at dksX3_init_3 22 rfl rfl)
theorem dX3_init_95 : decode cX3_init 95 = .ok (.newarray .int, 2) := dk_188_10 (dk_at dksX3_init_4 0 rfl rfl)
theorem dX3_init_97 : decode cX3_init 97 = .ok (.putfield 43, 3) := dk_181 0 43 (dk_at dksX3_init_4 2 rfl rfl)
theorem dX3_init_100 : decode cX3_init 100 = .ok (.aload_n 0, 1) := dk_42 (dk_at dksX3_init_4 5 rfl rfl)
theorem dX3_init_101 : decode cX3_init 101 = .ok (.bipush 10, 2) := dk_16 10 (dk_at dksX3_init_4 6 rfl rfl)
theorem dX3_init_103 : decode cX3_init 103 = .ok (.newarray .int, 2) := dk_188_10 (dk_at dksX3_init_4 8 rfl rfl)
theorem dX3_init_105 : decode cX3_init 105 = .ok (.putfield 46, 3) := dk_181 0 46 (dk_at dksX3_init_4 10 rfl rfl)
theorem dX3_init_108 : decode cX3_init 108 = .ok (.aload_n 0, 1) := dk_42 (dk_at dksX3_init_4 13 rfl rfl)
theorem dX3_init_109 : decode cX3_init 109 = .ok (.bipush 10, 2) := dk_16 10 (dk_at dksX3_init_4 14 rfl rfl)
theorem dX3_init_111 : decode cX3_init 111 = .ok (.newarray .int, 2) := dk_188_10 (dk_at dksX3_init_4 16 rfl rfl)
theorem dX3_init_113 : decode cX3_init 113 = .ok (.putfield 49, 3) := dk_181 0 49 (dk_at dksX3_init_4 18 rfl rfl)
theorem dX3_init_116 : decode cX3_init 116 = .ok (.aload_n 0, 1) := dk_42 (dk_at dksX3_init_4 21 rfl rfl)
theorem dX3_init_117 : decode cX3_init 117 = .ok (.bipush 20, 2) := dk_16 20 (dk_at dksX3_init_4 22 rfl rfl)
theorem dX3_init_119 : decode cX3_init 119 = .ok (.newarray .int, 2) := dk_188_10 (dk_at dksX3_init_5 0 rfl rfl)
theorem dX3_init_121 : decode cX3_init 121 = .ok (.putfield 52, 3) := dk_181 0 52 (dk_at dksX3_init_5 2 rfl rfl)
theorem dX3_init_124 : decode cX3_init 124 = .ok (.aload_n 0, 1) := dk_42 (dk_at dksX3_init_5 5 rfl rfl)
theorem dX3_init_125 : decode cX3_init 125 = .ok (.bipush 20, 2) := dk_16 20 (dk_at dksX3_init_5 6 rfl rfl)
theorem dX3_init_127 : decode cX3_init 127 = .ok (.newarray .int, 2) := dk_188_10 (dk_at dksX3_init_5 8 rfl rfl)
theorem dX3_init_129 : decode cX3_init 129 = .ok (.putfield 55, 3) := dk_181 0 55 (dk_at dksX3_init_5 10 rfl rfl)
theorem dX3_init_132 : decode cX3_init 132 = .ok (.aload_n 0, 1) := dk_42 (dk_at dksX3_init_5 13 rfl rfl)
theorem dX3_init_133 : decode cX3_init 133 = .ok (.bipush 6, 2) := dk_16 6 (dk_at dksX3_init_5 14 rfl rfl)
theorem dX3_init_135 : decode cX3_init 135 = .ok (.newarray .int, 2) := dk_188_10 (dk_at dksX3_init_5 16 rfl rfl)
theorem dX3_init_137 : decode cX3_init 137 = .ok (.putfield 58, 3) := dk_181 0 58 (dk_at dksX3_init_5 18 rfl rfl)
theorem dX3_init_140 : decode cX3_init 140 = .ok (.aload_n 0, 1) := dk_42 (dk_at dksX3_init_5 21 rfl rfl)
theorem dX3_init_141 : decode cX3_init 141 = .ok (.bipush 6, 2) := dk_16 6 (dk_at dksX3_init_5 22 rfl rfl)
theorem dX3_init_143 : decode cX3_init 143 = .ok (.newarray .int, 2) := dk_188_10 (dk_at dksX3_init_6 0 rfl rfl)
theorem dX3_init_145 : decode cX3_init 145 = .ok (.putfield 61, 3) := dk_181 0 61 (dk_at dksX3_init_6 2 rfl rfl)
theorem dX3_init_148 : decode cX3_init 148 = .ok (.aload_n 0, 1) := dk_42 (dk_at dksX3_init_6 5 rfl rfl)
theorem dX3_init_149 : decode cX3_init 149 = .ok (.sipush 200, 3) := dk_17 0 200 (dk_at dksX3_init_6 6 rfl rfl)
theorem dX3_init_152 : decode cX3_init 152 = .ok (.newarray .int, 2) := dk_188_10 (dk_at dksX3_init_6 9 rfl rfl)
theorem dX3_init_154 : decode cX3_init 154 = .ok (.putfield 64, 3) := dk_181 0 64 (dk_at dksX3_init_6 11 rfl rfl)
theorem dX3_init_157 : decode cX3_init 157 = .ok (.aload_n 0, 1) := dk_42 (dk_at dksX3_init_6 14 rfl rfl)
theorem dX3_init_158 : decode cX3_init 158 = .ok (.sipush 200, 3) := dk_17 0 200 (dk_at dksX3_init_6 15 rfl rfl)
theorem dX3_init_161 : decode cX3_init 161 = .ok (.newarray .int, 2) := dk_188_10 (dk_at dksX3_init_6 18 rfl rfl)
theorem dX3_init_163 : decode cX3_init 163 = .ok (.putfield 67, 3) := dk_181 0 67 (dk_at dksX3_init_6 20 rfl rfl)
theorem dX3_init_166 : decode cX3_init 166 = .ok (.aload_n 0, 1) := dk_42 (dk_at dksX3_init_6 23 rfl rfl)
theorem dX3_init_167 : decode cX3_init 167 = .ok (.sipush 200, 3) := dk_17 0 200 (dk_at dksX3_init_7 0 rfl rfl)
theorem dX3_init_170 : decode cX3_init 170 = .ok (.newarray .int, 2) := dk_188_10 (dk_at dksX3_init_7 3 rfl rfl)
theorem dX3_init_172 : decode cX3_init 172 = .ok (.putfield 70, 3) := dk_181 0 70 (dk_at dksX3_init_7 5 rfl rfl)
theorem dX3_init_175 : decode cX3_init 175 = .ok (.aload_n 0, 1) := dk_42 (dk_at dksX3_init_7 8 rfl rfl)
theorem dX3_init_176 : decode cX3_init 176 = .ok (.sipush 200, 3) := dk_17 0 200 (dk_at dksX3_init_7 9 rfl rfl)
theorem dX3_init_179 : decode cX3_init 179 = .ok (.newarray .int, 2) := dk_188_10 (dk_at dksX3_init_7 12 rfl rfl)
theorem dX3_init_181 : decode cX3_init 181 = .ok (.putfield 73, 3) := dk_181 0 73 (dk_at dksX3_init_7 14 rfl rfl)
theorem dX3_init_184 : decode cX3_init 184 = .ok (.aload_n 0, 1) := dk_42 (dk_at dksX3_init_7 17 rfl rfl)
theorem dX3_init_185 : decode cX3_init 185 = .ok (.sipush 200, 3) := dk_17 0 200 (dk_at dksX3_init_7 18 rfl rfl)
theorem dX3_init_188 : decode cX3_init 188 = .ok (.newarray .int, 2) := dk_188_10 (dk_at dksX3_init_7 21 rfl rfl)
theorem dX3_init_190 : decode cX3_init 190 = .ok (.putfield 76, 3) := dk_181 0 76 (dk_at dksX3_init_8 0 rfl rfl)
theorem dX3_init_193 : decode cX3_init 193 = .ok (.aload_n 0, 1) := dk_42 (dk_at dksX3_init_8 3 rfl rfl)
theorem dX3_init_194 : decode cX3_init 194 = .ok (.sipush 200, 3) := dk_17 0 200 (dk_at dksX3_init_8 4 rfl rfl)
theorem dX3_init_197 : decode cX3_init 197 = .ok (.newarray .int, 2) := dk_188_10 (dk_at dksX3_init_8 7 rfl rfl)
theorem dX3_init_199 : decode cX3_init 199 = .ok (.putfield 79, 3) := dk_181 0 79 (dk_at dksX3_init_8 9 rfl rfl)
theorem dX3_init_202 : decode cX3_init 202 = .ok (.aload_n 0, 1) := dk_42 (dk_at dksX3_init_8 12 rfl rfl)
theorem dX3_init_203 : decode cX3_init 203 = .ok (.sipush 200, 3) := dk_17 0 200 (dk_at dksX3_init_8 13 rfl rfl)
theorem dX3_init_206 : decode cX3_init 206 = .ok (.newarray .int, 2) := dk_188_10 (dk_at dksX3_init_8 16 rfl rfl)
theorem dX3_init_208 : decode cX3_init 208 = .ok (.putfield 82, 3) := dk_181 0 82 (dk_at dksX3_init_8 18 rfl rfl)
theorem dX3_init_211 : decode cX3_init 211 = .ok (.aload_n 0, 1) := dk_42 (dk_at dksX3_init_8 21 rfl rfl)
theorem dX3_init_212 : decode cX3_init 212 = .ok (.bipush 10, 2) := dk_16 10 (dk_at dksX3_init_8 22 rfl rfl)
theorem dX3_init_214 : decode cX3_init 214 = .ok (.newarray .int, 2) := dk_188_10 (dk_at dksX3_init_9 0 rfl rfl)
theorem dX3_init_216 : decode cX3_init 216 = .ok (.putfield 85, 3) := dk_181 0 85 (dk_at dksX3_init_9 2 rfl rfl)
theorem dX3_init_219 : decode cX3_init 219 = .ok (.aload_n 0, 1) := dk_42 (dk_at dksX3_init_9 5 rfl rfl)
theorem dX3_init_220 : decode cX3_init 220 = .ok (.sipush 200, 3) := dk_17 0 200 (dk_at dksX3_init_9 6 rfl rfl)
theorem dX3_init_223 : decode cX3_init 223 = .ok (.newarray .int, 2) := dk_188_10 (dk_at dksX3_init_9 9 rfl rfl)
theorem dX3_init_225 : decode cX3_init 225 = .ok (.putfield 88, 3) := dk_181 0 88 (dk_at dksX3_init_9 11 rfl rfl)
theorem dX3_init_228 : decode cX3_init 228 = .ok (.aload_n 0, 1) := dk_42 (dk_at dksX3_init_9 14 rfl rfl)
theorem dX3_init_229 : decode cX3_init 229 = .ok (.sipush 200, 3) := dk_17 0 200 (dk_at dksX3_init_9 15 rfl rfl)
theorem dX3_init_232 : decode cX3_init 232 = .ok (.newarray .int, 2) := dk_188_10 (dk_at dksX3_init_9 18 rfl rfl)
theorem dX3_init_234 : decode cX3_init 234 = .ok (.putfield 91, 3) := dk_181 0 91 (dk_at dksX3_init_9 20 rfl rfl)
theorem dX3_init_237 : decode cX3_init 237 = .ok (.aload_n 0, 1) := dk_42 (dk_at dksX3_init_9 23 rfl rfl)
theorem dX3_init_238 : decode cX3_init 238 = .ok (.sipush 200, 3) := dk_17 0 200 (dk_at dksX3_init_10 0 rfl rfl)
theorem dX3_init_241 : decode cX3_init 241 = .ok (.newarray .int, 2) := dk_188_10 (dk_at dksX3_init_10 3 rfl rfl)
theorem dX3_init_243 : decode cX3_init 243 = .ok (.putfield 94, 3) := dk_181 0 94 (dk_at dksX3_init_10 5 rfl rfl)
theorem dX3_init_246 : decode cX3_init 246 = .ok (.aload_n 0, 1) := dk_42 (dk_at dksX3_init_10 8 rfl rfl)
theorem dX3_init_247 : decode cX3_init 247 = .ok (.sipush 200, 3) := dk_17 0 200 (dk_at dksX3_init_10 9 rfl rfl)
theorem dX3_init_250 : decode cX3_init 250 = .ok (.newarray .int, 2) := dk_188_10 (dk_at dksX3_init_10 12 rfl rfl)
theorem dX3_init_252 : decode cX3_init 252 = .ok (.putfield 97, 3) := dk_181 0 97 (dk_at dksX3_init_10 14 rfl rfl)
theorem dX3_init_255 : decode cX3_init 255 = .ok (.aload_n 0, 1) := dk_42 (dk_at dksX3_init_10 17 rfl rfl)
theorem dX3_init_256 : decode cX3_init 256 = .ok (.sipush 200, 3) := dk_17 0 200 (dk_at dksX3_init_10 18 rfl rfl)
theorem dX3_init_259 : decode cX3_init 259 = .ok (.newarray .int, 2) := dk_188_10 (dk_at dksX3_init_10 21 rfl rfl)
theorem dX3_init_261 : decode cX3_init 261 = .ok (.putfield 100, 3) := dk_181 0 100 (dk_at dksX3_init_11 0 rfl rfl)
theorem dX3_init_264 : decode cX3_init 264 = .ok (.aload_n 0, 1) := dk_42 (dk_at dksX3_init_11 3 rfl rfl)
theorem dX3_init_265 : decode cX3_init 265 = .ok (.sipush 200, 3) := dk_17 0 200 (dk_at dksX3_init_11 4 rfl rfl)
theorem dX3_init_268 : decode cX3_init 268 = .ok (.newarray .int, 2) := dk_188_10 (dk_at dksX3_init_11 7 rfl rfl)
theorem dX3_init_270 : decode cX3_init 270 = .ok (.putfield 103, 3) := dk_181 0 103 (dk_at dksX3_init_11 9 rfl rfl)
theorem dX3_init_273 : decode cX3_init 273 = .ok (.aload_n 0, 1) := dk_42 (dk_at dksX3_init_11 12 rfl rfl)
theorem dX3_init_274 : decode cX3_init 274 = .ok (.sipush 200, 3) := dk_17 0 200 (dk_at dksX3_init_11 13 rfl rfl)
theorem dX3_init_277 : decode cX3_init 277 = .ok (.newarray .int, 2) := dk_188_10 (dk_at dksX3_init_11 16 rfl rfl)
theorem dX3_init_279 : decode cX3_init 279 = .ok (.putfield 106, 3) := dk_181 0 106 (dk_at dksX3_init_11 18 rfl rfl)
theorem dX3_init_282 : decode cX3_init 282 = .ok (.aload_n 0, 1) := dk_42 (dk_at dksX3_init_11 21 rfl rfl)
theorem dX3_init_283 : decode cX3_init 283 = .ok (.bipush 6, 2) := dk_16 6 (dk_at dksX3_init_11 22 rfl rfl)
theorem dX3_init_285 : decode cX3_init 285 = .ok (.newarray .int, 2) := dk_188_10 (dk_at dksX3_init_12 0 rfl rfl)
theorem dX3_init_287 : decode cX3_init 287 = .ok (.putfield 109, 3) := dk_181 0 109 (dk_at dksX3_init_12 2 rfl rfl)
theorem dX3_init_290 : decode cX3_init 290 = .ok (.aload_n 0, 1) := dk_42 (dk_at dksX3_init_12 5 rfl rfl)
theorem dX3_init_291 : decode cX3_init 291 = .ok (.bipush 6, 2) := dk_16 6 (dk_at dksX3_init_12 6 rfl rfl)
theorem dX3_init_293 : decode cX3_init 293 = .ok (.newarray .int, 2) := dk_188_10 (dk_at dksX3_init_12 8 rfl rfl)
theorem dX3_init_295 : decode cX3_init 295 = .ok (.putfield 112, 3) := dk_181 0 112 (dk_at dksX3_init_12 10 rfl rfl)
theorem dX3_init_298 : decode cX3_init 298 = .ok (.aload_n 0, 1) := dk_42 (dk_at dksX3_init_12 13 rfl rfl)
theorem dX3_init_299 : decode cX3_init 299 = .ok (.bipush 20, 2) := dk_16 20 (dk_at dksX3_init_12 14 rfl rfl)
theorem dX3_init_301 : decode cX3_init 301 = .ok (.newarray .int, 2) := dk_188_10 (dk_at dksX3_init_12 16 rfl rfl)
theorem dX3_init_303 : decode cX3_init 303 = .ok (.putfield 115, 3) := dk_181 0 115 (dk_at dksX3_init_12 18 rfl rfl)
theorem dX3_init_306 : decode cX3_init 306 = .ok (.aload_n 0, 1) := dk_42 (dk_at dksX3_init_12 21 rfl rfl)
theorem dX3_init_307 : decode cX3_init 307 = .ok (.bipush 20, 2) := dk_16 20 (dk_at dksX3_init_12 22 rfl rfl)
theorem dX3_init_309 : decode cX3_init 309 = .ok (.newarray .int, 2) := dk_188_10 (dk_at dksX3_init_13 0 rfl rfl)
theorem dX3_init_311 : decode cX3_init 311 = .ok (.putfield 118, 3) := dk_181 0 118 (dk_at dksX3_init_13 2 rfl rfl)
theorem dX3_init_314 : decode cX3_init 314 = .ok (.aload_n 0, 1) := dk_42 (dk_at dksX3_init_13 5 rfl rfl)
theorem dX3_init_315 : decode cX3_init 315 = .ok (.bipush 10, 2) := dk_16 10 (dk_at dksX3_init_13 6 rfl rfl)
theorem dX3_init_317 : decode cX3_init 317 = .ok (.newarray .int, 2) := dk_188_10 (dk_at dksX3_init_13 8 rfl rfl)
theorem dX3_init_319 : decode cX3_init 319 = .ok (.putfield 121, 3) := dk_181 0 121 (dk_at dksX3_init_13 10 rfl rfl)
theorem dX3_init_322 : decode cX3_init 322 = .ok (.aload_n 0, 1) := dk_42 (dk_at dksX3_init_13 13 rfl rfl)
theorem dX3_init_323 : decode cX3_init 323 = .ok (.bipush 50, 2) := dk_16 50 (dk_at dksX3_init_13 14 rfl rfl)
theorem dX3_init_325 : decode cX3_init 325 = .ok (.newarray .int, 2) := dk_188_10 (dk_at dksX3_init_13 16 rfl rfl)
theorem dX3_init_327 : decode cX3_init 327 = .ok (.putfield 124, 3) := dk_181 0 124 (dk_at dksX3_init_13 18 rfl rfl)
theorem dX3_init_330 : decode cX3_init 330 = .ok (.aload_n 0, 1) := dk_42 (dk_at dksX3_init_13 21 rfl rfl)
theorem dX3_init_331 : decode cX3_init 331 = .ok (.bipush 24, 2) := dk_16 24 (dk_at dksX3_init_13 22 rfl rfl)
theorem dX3_init_333 : decode cX3_init 333 = .ok (.newarray .int, 2) := dk_188_10 (dk_at dksX3_init_14 0 rfl rfl)
theorem dX3_init_335 : decode cX3_init 335 = .ok (.putfield 127, 3) := dk_181 0 127 (dk_at dksX3_init_14 2 rfl rfl)
theorem dX3_init_338 : decode cX3_init 338 = .ok (.aload_n 0, 1) := dk_42 (dk_at dksX3_init_14 5 rfl rfl)
theorem dX3_init_339 : decode cX3_init 339 = .ok (.bipush 6, 2) := dk_16 6 (dk_at dksX3_init_14 6 rfl rfl)
theorem dX3_init_341 : decode cX3_init 341 = .ok (.newarray .int, 2) := dk_188_10 (dk_at dksX3_init_14 8 rfl rfl)
theorem dX3_init_343 : decode cX3_init 343 = .ok (.putfield 130, 3) := dk_181 0 130 (dk_at dksX3_init_14 10 rfl rfl)
theorem dX3_init_346 : decode cX3_init 346 = .ok (.aload_n 0, 1) := dk_42 (dk_at dksX3_init_14 13 rfl rfl)
theorem dX3_init_347 : decode cX3_init 347 = .ok (.bipush 6, 2) := dk_16 6 (dk_at dksX3_init_14 14 rfl rfl)
theorem dX3_init_349 : decode cX3_init 349 = .ok (.newarray .int, 2) := dk_188_10 (dk_at dksX3_init_14 16 rfl rfl)
theorem dX3_init_351 : decode cX3_init 351 = .ok (.putfield 133, 3) := dk_181 0 133 (dk_at dksX3_init_14 18 rfl rfl)
theorem dX3_init_354 : decode cX3_init 354 = .ok (.aload_n 0, 1) := dk_42 (dk_at dksX3_init_14 21 rfl rfl)
theorem dX3_init_355 : decode cX3_init 355 = .ok (.sipush 360, 3) := dk_17 1 104 (dk_at dksX3_init_15 0 rfl rfl)
theorem dX3_init_358 : decode cX3_init 358 = .ok (.newarray .long, 2) := dk_188_11 (dk_at dksX3_init_15 3 rfl rfl)
theorem dX3_init_360 : decode cX3_init 360 = .ok (.putfield 136, 3) := dk_181 0 136 (dk_at dksX3_init_15 5 rfl rfl)
theorem dX3_init_363 : decode cX3_init 363 = .ok (.aload_n 0, 1) := dk_42 (dk_at dksX3_init_15 8 rfl rfl)
theorem dX3_init_364 : decode cX3_init 364 = .ok (.bipush 60, 2) := dk_16 60 (dk_at dksX3_init_15 9 rfl rfl)
theorem dX3_init_366 : decode cX3_init 366 = .ok (.newarray .long, 2) := dk_188_11 (dk_at dksX3_init_15 11 rfl rfl)
theorem dX3_init_368 : decode cX3_init 368 = .ok (.putfield 140, 3) := dk_181 0 140 (dk_at dksX3_init_15 13 rfl rfl)
theorem dX3_init_371 : decode cX3_init 371 = .ok (.iconst 0, 1) := dk_3 (dk_at dksX3_init_15 16 rfl rfl)
theorem dX3_init_372 : decode cX3_init 372 = .ok (.istore_n 1, 1) := dk_60 (dk_at dksX3_init_15 17 rfl rfl)
theorem dX3_init_373 : decode cX3_init 373 = .ok (.iload_n 1, 1) := dk_27 (dk_at dksX3_init_15 18 rfl rfl)
theorem dX3_init_374 : decode cX3_init 374 = .ok (.bipush 6, 2) := dk_16 6 (dk_at dksX3_init_15 19 rfl rfl)
theorem dX3_init_376 : decode cX3_init 376 = .ok (.if_icmp .ge 16, 3) := dk_162 0 16 (dk_at dksX3_init_15 21 rfl rfl)
theorem dX3_init_379 : decode cX3_init 379 = .ok (.aload_n 0, 1) := dk_42 (dk_at dksX3_init_16 0 rfl rfl)
theorem dX3_init_380 : decode cX3_init 380 = .ok (.getfield 130, 3) := dk_180 0 130 (dk_at dksX3_init_16 1 rfl rfl)
theorem dX3_init_383 : decode cX3_init 383 = .ok (.iload_n 1, 1) := dk_27 (dk_at dksX3_init_16 4 rfl rfl)
theorem dX3_init_384 : decode cX3_init 384 = .ok (.iconst (-1), 1) := dk_2 (dk_at dksX3_init_16 5 rfl rfl)
theorem dX3_init_385 : decode cX3_init 385 = .ok (.iastore, 1) := dk_79 (dk_at dksX3_init_16 6 rfl rfl)
theorem dX3_init_386 : decode cX3_init 386 = .ok (.iinc 1 1, 3) := dk_132 1 1 (dk_at dksX3_init_16 7 rfl rfl)
theorem dX3_init_389 : decode cX3_init 389 = .ok (.goto (-16), 3) := dk_167 255 240 (dk_at dksX3_init_16 10 rfl rfl)
theorem dX3_init_392 : decode cX3_init 392 = .ok (.aload_n 0, 1) := dk_42 (dk_at dksX3_init_16 13 rfl rfl)
theorem dX3_init_393 : decode cX3_init 393 = .ok (.iconst (-1), 1) := dk_2 (dk_at dksX3_init_16 14 rfl rfl)
theorem dX3_init_394 : decode cX3_init 394 = .ok (.putfield 143, 3) := dk_181 0 143 (dk_at dksX3_init_16 15 rfl rfl)
theorem dX3_init_397 : decode cX3_init 397 = .ok (.aload_n 0, 1) := dk_42 (dk_at dksX3_init_16 18 rfl rfl)
theorem dX3_init_398 : decode cX3_init 398 = .ok (.iconst 3, 1) := dk_6 (dk_at dksX3_init_16 19 rfl rfl)
theorem dX3_init_399 : decode cX3_init 399 = .ok (.putfield 147, 3) := dk_181 0 147 (dk_at dksX3_init_16 20 rfl rfl)
theorem dX3_init_402 : decode cX3_init 402 = .ok (.aload_n 0, 1) := dk_42 (dk_at dksX3_init_16 23 rfl rfl)
theorem dX3_init_403 : decode cX3_init 403 = .ok (.iconst (-1), 1) := dk_2 (dk_at dksX3_init_17 0 rfl rfl)
theorem dX3_init_404 : decode cX3_init 404 = .ok (.putfield 150, 3) := dk_181 0 150 (dk_at dksX3_init_17 1 rfl rfl)
theorem dX3_init_407 : decode cX3_init 407 = .ok (.return_, 1) := dk_177 (dk_at dksX3_init_17 4 rfl rfl)
abbrev cX3_undo : ByteArray := prog_34_method_5_code
def yX3_undo : MethodName := ⟨RX3, "undo", "()I"⟩
def dkwX3_undo_1 : List UInt8 := [42, 180, 0, 13, 42, 180, 0, 153, 46, 42, 180, 0, 16, 42, 180, 0, 153, 46, 79, 42, 180, 0, 153, 172]
abbrev dktX3_undo_1 : List UInt8 := dkwX3_undo_1 ++ []
def dkwX3_undo_0 : List UInt8 := [42, 180, 0, 153, 154, 0, 6, 16, 251, 172, 42, 89, 180, 0, 153, 4, 100, 181, 0, 153, 42, 180, 0, 9]
abbrev dktX3_undo_0 : List UInt8 := dkwX3_undo_0 ++ dktX3_undo_1
theorem dksX3_undo_0 : cX3_undo.data.toList.drop 0 = dktX3_undo_0 := by decide +kernel
theorem dksX3_undo_1 : cX3_undo.data.toList.drop 24 = dktX3_undo_1 := dk_seg dksX3_undo_0 24 rfl rfl
theorem dX3_undo_0 : decode cX3_undo 0 = .ok (.aload_n 0, 1) := dk_42 (dk_at dksX3_undo_0 0 rfl rfl)
theorem dX3_undo_1 : decode cX3_undo 1 = .ok (.getfield 153, 3) := dk_180 0 153 (dk_at dksX3_undo_0 1 rfl rfl)
theorem dX3_undo_4 : decode cX3_undo 4 = .ok (.ifCond .ne 6, 3) := dk_154 0 6 (dk_at dksX3_undo_0 4 rfl rfl)
theorem dX3_undo_7 : decode cX3_undo 7 = .ok (.bipush (-5), 2) := dk_16 251 (dk_at dksX3_undo_0 7 rfl rfl)
theorem dX3_undo_9 : decode cX3_undo 9 = .ok (.ireturn, 1) := dk_172 (dk_at dksX3_undo_0 9 rfl rfl)
theorem dX3_undo_10 : decode cX3_undo 10 = .ok (.aload_n 0, 1) := dk_42 (dk_at dksX3_undo_0 10 rfl rfl)
theorem dX3_undo_11 : decode cX3_undo 11 = .ok (.dup, 1) := dk_89 (dk_at dksX3_undo_0 11 rfl rfl)
theorem dX3_undo_12 : decode cX3_undo 12 = .ok (.getfield 153, 3) := dk_180 0 153 (dk_at dksX3_undo_0 12 rfl rfl)
theorem dX3_undo_15 : decode cX3_undo 15 = .ok (.iconst 1, 1) := dk_4 (dk_at dksX3_undo_0 15 rfl rfl)
theorem dX3_undo_16 : decode cX3_undo 16 = .ok (.isub, 1) := dk_100 (dk_at dksX3_undo_0 16 rfl rfl)
theorem dX3_undo_17 : decode cX3_undo 17 = .ok (.putfield 153, 3) := dk_181 0 153 (dk_at dksX3_undo_0 17 rfl rfl)
theorem dX3_undo_20 : decode cX3_undo 20 = .ok (.aload_n 0, 1) := dk_42 (dk_at dksX3_undo_0 20 rfl rfl)
theorem dX3_undo_21 : decode cX3_undo 21 = .ok (.getfield 9, 3) := dk_180 0 9 (dk_at dksX3_undo_0 21 rfl rfl)
theorem dX3_undo_24 : decode cX3_undo 24 = .ok (.aload_n 0, 1) := dk_42 (dk_at dksX3_undo_1 0 rfl rfl)
theorem dX3_undo_25 : decode cX3_undo 25 = .ok (.getfield 13, 3) := dk_180 0 13 (dk_at dksX3_undo_1 1 rfl rfl)
theorem dX3_undo_28 : decode cX3_undo 28 = .ok (.aload_n 0, 1) := dk_42 (dk_at dksX3_undo_1 4 rfl rfl)
theorem dX3_undo_29 : decode cX3_undo 29 = .ok (.getfield 153, 3) := dk_180 0 153 (dk_at dksX3_undo_1 5 rfl rfl)
theorem dX3_undo_32 : decode cX3_undo 32 = .ok (.iaload, 1) := dk_46 (dk_at dksX3_undo_1 8 rfl rfl)
theorem dX3_undo_33 : decode cX3_undo 33 = .ok (.aload_n 0, 1) := dk_42 (dk_at dksX3_undo_1 9 rfl rfl)
theorem dX3_undo_34 : decode cX3_undo 34 = .ok (.getfield 16, 3) := dk_180 0 16 (dk_at dksX3_undo_1 10 rfl rfl)
theorem dX3_undo_37 : decode cX3_undo 37 = .ok (.aload_n 0, 1) := dk_42 (dk_at dksX3_undo_1 13 rfl rfl)
theorem dX3_undo_38 : decode cX3_undo 38 = .ok (.getfield 153, 3) := dk_180 0 153 (dk_at dksX3_undo_1 14 rfl rfl)
theorem dX3_undo_41 : decode cX3_undo 41 = .ok (.iaload, 1) := dk_46 (dk_at dksX3_undo_1 17 rfl rfl)
theorem dX3_undo_42 : decode cX3_undo 42 = .ok (.iastore, 1) := dk_79 (dk_at dksX3_undo_1 18 rfl rfl)
theorem dX3_undo_43 : decode cX3_undo 43 = .ok (.aload_n 0, 1) := dk_42 (dk_at dksX3_undo_1 19 rfl rfl)
theorem dX3_undo_44 : decode cX3_undo 44 = .ok (.getfield 153, 3) := dk_180 0 153 (dk_at dksX3_undo_1 20 rfl rfl)
theorem dX3_undo_47 : decode cX3_undo 47 = .ok (.ireturn, 1) := dk_172 (dk_at dksX3_undo_1 23 rfl rfl)
abbrev cX3_redo : ByteArray := prog_34_method_6_code
def yX3_redo : MethodName := ⟨RX3, "redo", "()I"⟩
def dkwX3_redo_2 : List UInt8 := [42, 180, 0, 156, 42, 180, 0, 153, 100, 172]
abbrev dktX3_redo_2 : List UInt8 := dkwX3_redo_2 ++ []
def dkwX3_redo_1 : List UInt8 := [180, 0, 153, 46, 42, 180, 0, 19, 42, 180, 0, 153, 46, 79, 42, 89, 180, 0, 153, 4, 96, 181, 0, 153]
abbrev dktX3_redo_1 : List UInt8 := dkwX3_redo_1 ++ dktX3_redo_2
def dkwX3_redo_0 : List UInt8 := [42, 180, 0, 153, 42, 180, 0, 156, 160, 0, 6, 16, 251, 172, 42, 180, 0, 9, 42, 180, 0, 13, 42]
abbrev dktX3_redo_0 : List UInt8 := dkwX3_redo_0 ++ dktX3_redo_1
theorem dksX3_redo_0 : cX3_redo.data.toList.drop 0 = dktX3_redo_0 := by decide +kernel
theorem dksX3_redo_1 : cX3_redo.data.toList.drop 23 = dktX3_redo_1 := dk_seg dksX3_redo_0 23 rfl rfl
theorem dksX3_redo_2 : cX3_redo.data.toList.drop 47 = dktX3_redo_2 := dk_seg dksX3_redo_1 24 rfl rfl
theorem dX3_redo_0 : decode cX3_redo 0 = .ok (.aload_n 0, 1) := dk_42 (dk_at dksX3_redo_0 0 rfl rfl)
theorem dX3_redo_1 : decode cX3_redo 1 = .ok (.getfield 153, 3) := dk_180 0 153 (dk_at dksX3_redo_0 1 rfl rfl)
theorem dX3_redo_4 : decode cX3_redo 4 = .ok (.aload_n 0, 1) := dk_42 (dk_at dksX3_redo_0 4 rfl rfl)
theorem dX3_redo_5 : decode cX3_redo 5 = .ok (.getfield 156, 3) := dk_180 0 156 (dk_at dksX3_redo_0 5 rfl rfl)
theorem dX3_redo_8 : decode cX3_redo 8 = .ok (.if_icmp .ne 6, 3) := dk_160 0 6 (dk_at dksX3_redo_0 8 rfl rfl)
theorem dX3_redo_11 : decode cX3_redo 11 = .ok (.bipush (-5), 2) := dk_16 251 (dk_at dksX3_redo_0 11 rfl rfl)
theorem dX3_redo_13 : decode cX3_redo 13 = .ok (.ireturn, 1) := dk_172 (dk_at dksX3_redo_0 13 rfl rfl)
theorem dX3_redo_14 : decode cX3_redo 14 = .ok (.aload_n 0, 1) := dk_42 (dk_at dksX3_redo_0 14 rfl rfl)
theorem dX3_redo_15 : decode cX3_redo 15 = .ok (.getfield 9, 3) := dk_180 0 9 (dk_at dksX3_redo_0 15 rfl rfl)
theorem dX3_redo_18 : decode cX3_redo 18 = .ok (.aload_n 0, 1) := dk_42 (dk_at dksX3_redo_0 18 rfl rfl)
theorem dX3_redo_19 : decode cX3_redo 19 = .ok (.getfield 13, 3) := dk_180 0 13 (dk_at dksX3_redo_0 19 rfl rfl)
theorem dX3_redo_22 : decode cX3_redo 22 = .ok (.aload_n 0, 1) := dk_42 (dk_at dksX3_redo_0 22 rfl rfl)
theorem dX3_redo_23 : decode cX3_redo 23 = .ok (.getfield 153, 3) := dk_180 0 153 (dk_at dksX3_redo_1 0 rfl rfl)
theorem dX3_redo_26 : decode cX3_redo 26 = .ok (.iaload, 1) := dk_46 (dk_at dksX3_redo_1 3 rfl rfl)
theorem dX3_redo_27 : decode cX3_redo 27 = .ok (.aload_n 0, 1) := dk_42 (dk_at dksX3_redo_1 4 rfl rfl)
theorem dX3_redo_28 : decode cX3_redo 28 = .ok (.getfield 19, 3) := dk_180 0 19 (dk_at dksX3_redo_1 5 rfl rfl)
theorem dX3_redo_31 : decode cX3_redo 31 = .ok (.aload_n 0, 1) := dk_42 (dk_at dksX3_redo_1 8 rfl rfl)
theorem dX3_redo_32 : decode cX3_redo 32 = .ok (.getfield 153, 3) := dk_180 0 153 (dk_at dksX3_redo_1 9 rfl rfl)
theorem dX3_redo_35 : decode cX3_redo 35 = .ok (.iaload, 1) := dk_46 (dk_at dksX3_redo_1 12 rfl rfl)
theorem dX3_redo_36 : decode cX3_redo 36 = .ok (.iastore, 1) := dk_79 (dk_at dksX3_redo_1 13 rfl rfl)
theorem dX3_redo_37 : decode cX3_redo 37 = .ok (.aload_n 0, 1) := dk_42 (dk_at dksX3_redo_1 14 rfl rfl)
theorem dX3_redo_38 : decode cX3_redo 38 = .ok (.dup, 1) := dk_89 (dk_at dksX3_redo_1 15 rfl rfl)
theorem dX3_redo_39 : decode cX3_redo 39 = .ok (.getfield 153, 3) := dk_180 0 153 (dk_at dksX3_redo_1 16 rfl rfl)
theorem dX3_redo_42 : decode cX3_redo 42 = .ok (.iconst 1, 1) := dk_4 (dk_at dksX3_redo_1 19 rfl rfl)
theorem dX3_redo_43 : decode cX3_redo 43 = .ok (.iadd, 1) := dk_96 (dk_at dksX3_redo_1 20 rfl rfl)
theorem dX3_redo_44 : decode cX3_redo 44 = .ok (.putfield 153, 3) := dk_181 0 153 (dk_at dksX3_redo_1 21 rfl rfl)
theorem dX3_redo_47 : decode cX3_redo 47 = .ok (.aload_n 0, 1) := dk_42 (dk_at dksX3_redo_2 0 rfl rfl)
theorem dX3_redo_48 : decode cX3_redo 48 = .ok (.getfield 156, 3) := dk_180 0 156 (dk_at dksX3_redo_2 1 rfl rfl)
theorem dX3_redo_51 : decode cX3_redo 51 = .ok (.aload_n 0, 1) := dk_42 (dk_at dksX3_redo_2 4 rfl rfl)
theorem dX3_redo_52 : decode cX3_redo 52 = .ok (.getfield 153, 3) := dk_180 0 153 (dk_at dksX3_redo_2 5 rfl rfl)
theorem dX3_redo_55 : decode cX3_redo 55 = .ok (.isub, 1) := dk_100 (dk_at dksX3_redo_2 8 rfl rfl)
theorem dX3_redo_56 : decode cX3_redo 56 = .ok (.ireturn, 1) := dk_172 (dk_at dksX3_redo_2 9 rfl rfl)
abbrev cX3_person : ByteArray := prog_34_method_11_code
def yX3_person : MethodName := ⟨RX3, "person", "(II)I"⟩
def dkwX3_person_4 : List UInt8 := [79, 42, 89, 180, 0, 159, 4, 96, 181, 0, 159, 42, 180, 0, 159, 4, 100, 172]
abbrev dktX3_person_4 : List UInt8 := dkwX3_person_4 ++ []
def dkwX3_person_3 : List UInt8 := [42, 180, 0, 159, 28, 16, 100, 108, 79, 42, 180, 0, 9, 16, 20, 42, 180, 0, 159, 96, 28, 16, 100, 112]
abbrev dktX3_person_3 : List UInt8 := dkwX3_person_3 ++ dktX3_person_4
def dkwX3_person_2 : List UInt8 := [16, 10, 108, 79, 42, 180, 0, 9, 16, 10, 42, 180, 0, 159, 96, 27, 16, 10, 112, 79, 42, 180, 0, 22]
abbrev dktX3_person_2 : List UInt8 := dkwX3_person_2 ++ dktX3_person_3
def dkwX3_person_1 : List UInt8 := [2, 172, 42, 180, 0, 159, 16, 10, 160, 0, 6, 16, 253, 172, 42, 180, 0, 9, 42, 180, 0, 159, 27]
abbrev dktX3_person_1 : List UInt8 := dkwX3_person_1 ++ dktX3_person_2
def dkwX3_person_0 : List UInt8 := [27, 133, 9, 20, 0, 174, 184, 0, 162, 153, 0, 15, 28, 133, 9, 20, 0, 176, 184, 0, 162, 154, 0, 5]
abbrev dktX3_person_0 : List UInt8 := dkwX3_person_0 ++ dktX3_person_1
theorem dksX3_person_0 : cX3_person.data.toList.drop 0 = dktX3_person_0 := by decide +kernel
theorem dksX3_person_1 : cX3_person.data.toList.drop 24 = dktX3_person_1 := dk_seg dksX3_person_0 24 rfl rfl
theorem dksX3_person_2 : cX3_person.data.toList.drop 47 = dktX3_person_2 := dk_seg dksX3_person_1 23 rfl rfl
theorem dksX3_person_3 : cX3_person.data.toList.drop 71 = dktX3_person_3 := dk_seg dksX3_person_2 24 rfl rfl
theorem dksX3_person_4 : cX3_person.data.toList.drop 95 = dktX3_person_4 := dk_seg dksX3_person_3 24 rfl rfl
theorem dX3_person_0 : decode cX3_person 0 = .ok (.iload_n 1, 1) := dk_27 (dk_at dksX3_person_0 0 rfl rfl)
theorem dX3_person_1 : decode cX3_person 1 = .ok (.i2l, 1) := dk_133 (dk_at dksX3_person_0 1 rfl rfl)
theorem dX3_person_2 : decode cX3_person 2 = .ok (.lconst 0, 1) := dk_9 (dk_at dksX3_person_0 2 rfl rfl)
theorem dX3_person_3 : decode cX3_person 3 = .ok (.ldc2_w 174, 3) := dk_20 0 174 (dk_at dksX3_person_0 3 rfl rfl)
theorem dX3_person_6 : decode cX3_person 6 = .ok (.invokestatic 162, 3) := dk_184 0 162 (dk_at dksX3_person_0 6 rfl rfl)
theorem dX3_person_9 : decode cX3_person 9 = .ok (.ifCond .eq 15, 3) := dk_153 0 15 (dk_at dksX3_person_0 9 rfl rfl)
theorem dX3_person_12 : decode cX3_person 12 = .ok (.iload_n 2, 1) := dk_28 (dk_at dksX3_person_0 12 rfl rfl)
theorem dX3_person_13 : decode cX3_person 13 = .ok (.i2l, 1) := dk_133 (dk_at dksX3_person_0 13 rfl rfl)
theorem dX3_person_14 : decode cX3_person 14 = .ok (.lconst 0, 1) := dk_9 (dk_at dksX3_person_0 14 rfl rfl)
theorem dX3_person_15 : decode cX3_person 15 = .ok (.ldc2_w 176, 3) := dk_20 0 176 (dk_at dksX3_person_0 15 rfl rfl)
theorem dX3_person_18 : decode cX3_person 18 = .ok (.invokestatic 162, 3) := dk_184 0 162 (dk_at dksX3_person_0 18 rfl rfl)
theorem dX3_person_21 : decode cX3_person 21 = .ok (.ifCond .ne 5, 3) := dk_154 0 5 (dk_at dksX3_person_0 21 rfl rfl)
theorem dX3_person_24 : decode cX3_person 24 = .ok (.iconst (-1), 1) := dk_2 (dk_at dksX3_person_1 0 rfl rfl)
theorem dX3_person_25 : decode cX3_person 25 = .ok (.ireturn, 1) := dk_172 (dk_at dksX3_person_1 1 rfl rfl)
theorem dX3_person_26 : decode cX3_person 26 = .ok (.aload_n 0, 1) := dk_42 (dk_at dksX3_person_1 2 rfl rfl)
theorem dX3_person_27 : decode cX3_person 27 = .ok (.getfield 159, 3) := dk_180 0 159 (dk_at dksX3_person_1 3 rfl rfl)
theorem dX3_person_30 : decode cX3_person 30 = .ok (.bipush 10, 2) := dk_16 10 (dk_at dksX3_person_1 6 rfl rfl)
theorem dX3_person_32 : decode cX3_person 32 = .ok (.if_icmp .ne 6, 3) := dk_160 0 6 (dk_at dksX3_person_1 8 rfl rfl)
theorem dX3_person_35 : decode cX3_person 35 = .ok (.bipush (-3), 2) := dk_16 253 (dk_at dksX3_person_1 11 rfl rfl)
theorem dX3_person_37 : decode cX3_person 37 = .ok (.ireturn, 1) := dk_172 (dk_at dksX3_person_1 13 rfl rfl)
theorem dX3_person_38 : decode cX3_person 38 = .ok (.aload_n 0, 1) := dk_42 (dk_at dksX3_person_1 14 rfl rfl)
theorem dX3_person_39 : decode cX3_person 39 = .ok (.getfield 9, 3) := dk_180 0 9 (dk_at dksX3_person_1 15 rfl rfl)
theorem dX3_person_42 : decode cX3_person 42 = .ok (.aload_n 0, 1) := dk_42 (dk_at dksX3_person_1 18 rfl rfl)
theorem dX3_person_43 : decode cX3_person 43 = .ok (.getfield 159, 3) := dk_180 0 159 (dk_at dksX3_person_1 19 rfl rfl)
theorem dX3_person_46 : decode cX3_person 46 = .ok (.iload_n 1, 1) := dk_27 (dk_at dksX3_person_1 22 rfl rfl)
theorem dX3_person_47 : decode cX3_person 47 = .ok (.bipush 10, 2) := dk_16 10 (dk_at dksX3_person_2 0 rfl rfl)
theorem dX3_person_49 : decode cX3_person 49 = .ok (.idiv, 1) := dk_108 (dk_at dksX3_person_2 2 rfl rfl)
theorem dX3_person_50 : decode cX3_person 50 = .ok (.iastore, 1) := dk_79 (dk_at dksX3_person_2 3 rfl rfl)
theorem dX3_person_51 : decode cX3_person 51 = .ok (.aload_n 0, 1) := dk_42 (dk_at dksX3_person_2 4 rfl rfl)
theorem dX3_person_52 : decode cX3_person 52 = .ok (.getfield 9, 3) := dk_180 0 9 (dk_at dksX3_person_2 5 rfl rfl)
theorem dX3_person_55 : decode cX3_person 55 = .ok (.bipush 10, 2) := dk_16 10 (dk_at dksX3_person_2 8 rfl rfl)
theorem dX3_person_57 : decode cX3_person 57 = .ok (.aload_n 0, 1) := dk_42 (dk_at dksX3_person_2 10 rfl rfl)
theorem dX3_person_58 : decode cX3_person 58 = .ok (.getfield 159, 3) := dk_180 0 159 (dk_at dksX3_person_2 11 rfl rfl)
theorem dX3_person_61 : decode cX3_person 61 = .ok (.iadd, 1) := dk_96 (dk_at dksX3_person_2 14 rfl rfl)
theorem dX3_person_62 : decode cX3_person 62 = .ok (.iload_n 1, 1) := dk_27 (dk_at dksX3_person_2 15 rfl rfl)
theorem dX3_person_63 : decode cX3_person 63 = .ok (.bipush 10, 2) := dk_16 10 (dk_at dksX3_person_2 16 rfl rfl)
theorem dX3_person_65 : decode cX3_person 65 = .ok (.irem, 1) := dk_112 (dk_at dksX3_person_2 18 rfl rfl)
theorem dX3_person_66 : decode cX3_person 66 = .ok (.iastore, 1) := dk_79 (dk_at dksX3_person_2 19 rfl rfl)
theorem dX3_person_67 : decode cX3_person 67 = .ok (.aload_n 0, 1) := dk_42 (dk_at dksX3_person_2 20 rfl rfl)
theorem dX3_person_68 : decode cX3_person 68 = .ok (.getfield 22, 3) := dk_180 0 22 (dk_at dksX3_person_2 21 rfl rfl)
theorem dX3_person_71 : decode cX3_person 71 = .ok (.aload_n 0, 1) := dk_42 (dk_at dksX3_person_3 0 rfl rfl)
theorem dX3_person_72 : decode cX3_person 72 = .ok (.getfield 159, 3) := dk_180 0 159 (dk_at dksX3_person_3 1 rfl rfl)
theorem dX3_person_75 : decode cX3_person 75 = .ok (.iload_n 2, 1) := dk_28 (dk_at dksX3_person_3 4 rfl rfl)
theorem dX3_person_76 : decode cX3_person 76 = .ok (.bipush 100, 2) := dk_16 100 (dk_at dksX3_person_3 5 rfl rfl)
theorem dX3_person_78 : decode cX3_person 78 = .ok (.idiv, 1) := dk_108 (dk_at dksX3_person_3 7 rfl rfl)
theorem dX3_person_79 : decode cX3_person 79 = .ok (.iastore, 1) := dk_79 (dk_at dksX3_person_3 8 rfl rfl)
theorem dX3_person_80 : decode cX3_person 80 = .ok (.aload_n 0, 1) := dk_42 (dk_at dksX3_person_3 9 rfl rfl)
theorem dX3_person_81 : decode cX3_person 81 = .ok (.getfield 9, 3) := dk_180 0 9 (dk_at dksX3_person_3 10 rfl rfl)
theorem dX3_person_84 : decode cX3_person 84 = .ok (.bipush 20, 2) := dk_16 20 (dk_at dksX3_person_3 13 rfl rfl)
theorem dX3_person_86 : decode cX3_person 86 = .ok (.aload_n 0, 1) := dk_42 (dk_at dksX3_person_3 15 rfl rfl)
theorem dX3_person_87 : decode cX3_person 87 = .ok (.getfield 159, 3) := dk_180 0 159 (dk_at dksX3_person_3 16 rfl rfl)
theorem dX3_person_90 : decode cX3_person 90 = .ok (.iadd, 1) := dk_96 (dk_at dksX3_person_3 19 rfl rfl)
theorem dX3_person_91 : decode cX3_person 91 = .ok (.iload_n 2, 1) := dk_28 (dk_at dksX3_person_3 20 rfl rfl)
theorem dX3_person_92 : decode cX3_person 92 = .ok (.bipush 100, 2) := dk_16 100 (dk_at dksX3_person_3 21 rfl rfl)
theorem dX3_person_94 : decode cX3_person 94 = .ok (.irem, 1) := dk_112 (dk_at dksX3_person_3 23 rfl rfl)
theorem dX3_person_95 : decode cX3_person 95 = .ok (.iastore, 1) := dk_79 (dk_at dksX3_person_4 0 rfl rfl)
theorem dX3_person_96 : decode cX3_person 96 = .ok (.aload_n 0, 1) := dk_42 (dk_at dksX3_person_4 1 rfl rfl)
theorem dX3_person_97 : decode cX3_person 97 = .ok (.dup, 1) := dk_89 (dk_at dksX3_person_4 2 rfl rfl)
theorem dX3_person_98 : decode cX3_person 98 = .ok (.getfield 159, 3) := dk_180 0 159 (dk_at dksX3_person_4 3 rfl rfl)
theorem dX3_person_101 : decode cX3_person 101 = .ok (.iconst 1, 1) := dk_4 (dk_at dksX3_person_4 6 rfl rfl)
theorem dX3_person_102 : decode cX3_person 102 = .ok (.iadd, 1) := dk_96 (dk_at dksX3_person_4 7 rfl rfl)
theorem dX3_person_103 : decode cX3_person 103 = .ok (.putfield 159, 3) := dk_181 0 159 (dk_at dksX3_person_4 8 rfl rfl)
theorem dX3_person_106 : decode cX3_person 106 = .ok (.aload_n 0, 1) := dk_42 (dk_at dksX3_person_4 11 rfl rfl)
theorem dX3_person_107 : decode cX3_person 107 = .ok (.getfield 159, 3) := dk_180 0 159 (dk_at dksX3_person_4 12 rfl rfl)
theorem dX3_person_110 : decode cX3_person 110 = .ok (.iconst 1, 1) := dk_4 (dk_at dksX3_person_4 15 rfl rfl)
theorem dX3_person_111 : decode cX3_person 111 = .ok (.isub, 1) := dk_100 (dk_at dksX3_person_4 16 rfl rfl)
theorem dX3_person_112 : decode cX3_person 112 = .ok (.ireturn, 1) := dk_172 (dk_at dksX3_person_4 17 rfl rfl)
abbrev cX3_within : ByteArray := prog_34_method_1_code
def yX3_within : MethodName := ⟨RX3, "within", "(JJJ)Z"⟩
def dkwX3_within_0 : List UInt8 := [30, 32, 148, 155, 0, 14, 30, 22, 4, 148, 157, 0, 7, 4, 167, 0, 4, 3, 172]
abbrev dktX3_within_0 : List UInt8 := dkwX3_within_0 ++ []
theorem dksX3_within_0 : cX3_within.data.toList.drop 0 = dktX3_within_0 := by decide +kernel
theorem dX3_within_0 : decode cX3_within 0 = .ok (.lload_n 0, 1) := dk_30 (dk_at dksX3_within_0 0 rfl rfl)
theorem dX3_within_1 : decode cX3_within 1 = .ok (.lload_n 2, 1) := dk_32 (dk_at dksX3_within_0 1 rfl rfl)
theorem dX3_within_2 : decode cX3_within 2 = .ok (.lcmp, 1) := dk_148 (dk_at dksX3_within_0 2 rfl rfl)
theorem dX3_within_3 : decode cX3_within 3 = .ok (.ifCond .lt 14, 3) := dk_155 0 14 (dk_at dksX3_within_0 3 rfl rfl)
theorem dX3_within_6 : decode cX3_within 6 = .ok (.lload_n 0, 1) := dk_30 (dk_at dksX3_within_0 6 rfl rfl)
theorem dX3_within_7 : decode cX3_within 7 = .ok (.lload 4, 2) := dk_22 4 (dk_at dksX3_within_0 7 rfl rfl)
theorem dX3_within_9 : decode cX3_within 9 = .ok (.lcmp, 1) := dk_148 (dk_at dksX3_within_0 9 rfl rfl)
theorem dX3_within_10 : decode cX3_within 10 = .ok (.ifCond .gt 7, 3) := dk_157 0 7 (dk_at dksX3_within_0 10 rfl rfl)
theorem dX3_within_13 : decode cX3_within 13 = .ok (.iconst 1, 1) := dk_4 (dk_at dksX3_within_0 13 rfl rfl)
theorem dX3_within_14 : decode cX3_within 14 = .ok (.goto 4, 3) := dk_167 0 4 (dk_at dksX3_within_0 14 rfl rfl)
theorem dX3_within_17 : decode cX3_within 17 = .ok (.iconst 0, 1) := dk_3 (dk_at dksX3_within_0 17 rfl rfl)
theorem dX3_within_18 : decode cX3_within 18 = .ok (.ireturn, 1) := dk_172 (dk_at dksX3_within_0 18 rfl rfl)
abbrev cX3_thing : ByteArray := prog_34_method_13_code
def yX3_thing : MethodName := ⟨RX3, "thing", "(II)I"⟩
def dkwX3_thing_3 : List UInt8 := [100, 172]
abbrev dktX3_thing_3 : List UInt8 := dkwX3_thing_3 ++ []
def dkwX3_thing_2 : List UInt8 := [16, 36, 42, 180, 0, 166, 96, 28, 79, 42, 89, 180, 0, 166, 4, 96, 181, 0, 166, 42, 180, 0, 166, 4]
abbrev dktX3_thing_2 : List UInt8 := dkwX3_thing_2 ++ dktX3_thing_3
def dkwX3_thing_1 : List UInt8 := [160, 0, 6, 16, 253, 172, 42, 180, 0, 9, 16, 30, 42, 180, 0, 166, 96, 27, 79, 42, 180, 0, 9]
abbrev dktX3_thing_1 : List UInt8 := dkwX3_thing_1 ++ dktX3_thing_2
def dkwX3_thing_0 : List UInt8 := [27, 184, 0, 180, 153, 0, 10, 28, 184, 0, 184, 154, 0, 5, 2, 172, 42, 180, 0, 166, 16, 6]
abbrev dktX3_thing_0 : List UInt8 := dkwX3_thing_0 ++ dktX3_thing_1
theorem dksX3_thing_0 : cX3_thing.data.toList.drop 0 = dktX3_thing_0 := by decide +kernel
theorem dksX3_thing_1 : cX3_thing.data.toList.drop 22 = dktX3_thing_1 := dk_seg dksX3_thing_0 22 rfl rfl
theorem dksX3_thing_2 : cX3_thing.data.toList.drop 45 = dktX3_thing_2 := dk_seg dksX3_thing_1 23 rfl rfl
theorem dksX3_thing_3 : cX3_thing.data.toList.drop 69 = dktX3_thing_3 := dk_seg dksX3_thing_2 24 rfl rfl
theorem dX3_thing_0 : decode cX3_thing 0 = .ok (.iload_n 1, 1) := dk_27 (dk_at dksX3_thing_0 0 rfl rfl)
theorem dX3_thing_1 : decode cX3_thing 1 = .ok (.invokestatic 180, 3) := dk_184 0 180 (dk_at dksX3_thing_0 1 rfl rfl)
theorem dX3_thing_4 : decode cX3_thing 4 = .ok (.ifCond .eq 10, 3) := dk_153 0 10 (dk_at dksX3_thing_0 4 rfl rfl)
theorem dX3_thing_7 : decode cX3_thing 7 = .ok (.iload_n 2, 1) := dk_28 (dk_at dksX3_thing_0 7 rfl rfl)
theorem dX3_thing_8 : decode cX3_thing 8 = .ok (.invokestatic 184, 3) := dk_184 0 184 (dk_at dksX3_thing_0 8 rfl rfl)
theorem dX3_thing_11 : decode cX3_thing 11 = .ok (.ifCond .ne 5, 3) := dk_154 0 5 (dk_at dksX3_thing_0 11 rfl rfl)
theorem dX3_thing_14 : decode cX3_thing 14 = .ok (.iconst (-1), 1) := dk_2 (dk_at dksX3_thing_0 14 rfl rfl)
theorem dX3_thing_15 : decode cX3_thing 15 = .ok (.ireturn, 1) := dk_172 (dk_at dksX3_thing_0 15 rfl rfl)
theorem dX3_thing_16 : decode cX3_thing 16 = .ok (.aload_n 0, 1) := dk_42 (dk_at dksX3_thing_0 16 rfl rfl)
theorem dX3_thing_17 : decode cX3_thing 17 = .ok (.getfield 166, 3) := dk_180 0 166 (dk_at dksX3_thing_0 17 rfl rfl)
theorem dX3_thing_20 : decode cX3_thing 20 = .ok (.bipush 6, 2) := dk_16 6 (dk_at dksX3_thing_0 20 rfl rfl)
theorem dX3_thing_22 : decode cX3_thing 22 = .ok (.if_icmp .ne 6, 3) := dk_160 0 6 (dk_at dksX3_thing_1 0 rfl rfl)
theorem dX3_thing_25 : decode cX3_thing 25 = .ok (.bipush (-3), 2) := dk_16 253 (dk_at dksX3_thing_1 3 rfl rfl)
theorem dX3_thing_27 : decode cX3_thing 27 = .ok (.ireturn, 1) := dk_172 (dk_at dksX3_thing_1 5 rfl rfl)
theorem dX3_thing_28 : decode cX3_thing 28 = .ok (.aload_n 0, 1) := dk_42 (dk_at dksX3_thing_1 6 rfl rfl)
theorem dX3_thing_29 : decode cX3_thing 29 = .ok (.getfield 9, 3) := dk_180 0 9 (dk_at dksX3_thing_1 7 rfl rfl)
theorem dX3_thing_32 : decode cX3_thing 32 = .ok (.bipush 30, 2) := dk_16 30 (dk_at dksX3_thing_1 10 rfl rfl)
theorem dX3_thing_34 : decode cX3_thing 34 = .ok (.aload_n 0, 1) := dk_42 (dk_at dksX3_thing_1 12 rfl rfl)
theorem dX3_thing_35 : decode cX3_thing 35 = .ok (.getfield 166, 3) := dk_180 0 166 (dk_at dksX3_thing_1 13 rfl rfl)
theorem dX3_thing_38 : decode cX3_thing 38 = .ok (.iadd, 1) := dk_96 (dk_at dksX3_thing_1 16 rfl rfl)
theorem dX3_thing_39 : decode cX3_thing 39 = .ok (.iload_n 1, 1) := dk_27 (dk_at dksX3_thing_1 17 rfl rfl)
theorem dX3_thing_40 : decode cX3_thing 40 = .ok (.iastore, 1) := dk_79 (dk_at dksX3_thing_1 18 rfl rfl)
theorem dX3_thing_41 : decode cX3_thing 41 = .ok (.aload_n 0, 1) := dk_42 (dk_at dksX3_thing_1 19 rfl rfl)
theorem dX3_thing_42 : decode cX3_thing 42 = .ok (.getfield 9, 3) := dk_180 0 9 (dk_at dksX3_thing_1 20 rfl rfl)
theorem dX3_thing_45 : decode cX3_thing 45 = .ok (.bipush 36, 2) := dk_16 36 (dk_at dksX3_thing_2 0 rfl rfl)
theorem dX3_thing_47 : decode cX3_thing 47 = .ok (.aload_n 0, 1) := dk_42 (dk_at dksX3_thing_2 2 rfl rfl)
theorem dX3_thing_48 : decode cX3_thing 48 = .ok (.getfield 166, 3) := dk_180 0 166 (dk_at dksX3_thing_2 3 rfl rfl)
theorem dX3_thing_51 : decode cX3_thing 51 = .ok (.iadd, 1) := dk_96 (dk_at dksX3_thing_2 6 rfl rfl)
theorem dX3_thing_52 : decode cX3_thing 52 = .ok (.iload_n 2, 1) := dk_28 (dk_at dksX3_thing_2 7 rfl rfl)
theorem dX3_thing_53 : decode cX3_thing 53 = .ok (.iastore, 1) := dk_79 (dk_at dksX3_thing_2 8 rfl rfl)
theorem dX3_thing_54 : decode cX3_thing 54 = .ok (.aload_n 0, 1) := dk_42 (dk_at dksX3_thing_2 9 rfl rfl)
theorem dX3_thing_55 : decode cX3_thing 55 = .ok (.dup, 1) := dk_89 (dk_at dksX3_thing_2 10 rfl rfl)
theorem dX3_thing_56 : decode cX3_thing 56 = .ok (.getfield 166, 3) := dk_180 0 166 (dk_at dksX3_thing_2 11 rfl rfl)
theorem dX3_thing_59 : decode cX3_thing 59 = .ok (.iconst 1, 1) := dk_4 (dk_at dksX3_thing_2 14 rfl rfl)
theorem dX3_thing_60 : decode cX3_thing 60 = .ok (.iadd, 1) := dk_96 (dk_at dksX3_thing_2 15 rfl rfl)
theorem dX3_thing_61 : decode cX3_thing 61 = .ok (.putfield 166, 3) := dk_181 0 166 (dk_at dksX3_thing_2 16 rfl rfl)
theorem dX3_thing_64 : decode cX3_thing 64 = .ok (.aload_n 0, 1) := dk_42 (dk_at dksX3_thing_2 19 rfl rfl)
theorem dX3_thing_65 : decode cX3_thing 65 = .ok (.getfield 166, 3) := dk_180 0 166 (dk_at dksX3_thing_2 20 rfl rfl)
theorem dX3_thing_68 : decode cX3_thing 68 = .ok (.iconst 1, 1) := dk_4 (dk_at dksX3_thing_2 23 rfl rfl)
theorem dX3_thing_69 : decode cX3_thing 69 = .ok (.isub, 1) := dk_100 (dk_at dksX3_thing_3 0 rfl rfl)
theorem dX3_thing_70 : decode cX3_thing 70 = .ok (.ireturn, 1) := dk_172 (dk_at dksX3_thing_3 1 rfl rfl)
abbrev cX3_isWorth : ByteArray := prog_34_method_12_code
def yX3_isWorth : MethodName := ⟨RX3, "isWorth", "(I)Z"⟩
def dkwX3_isWorth_0 : List UInt8 := [26, 133, 20, 0, 178, 20, 0, 174, 184, 0, 162, 172]
abbrev dktX3_isWorth_0 : List UInt8 := dkwX3_isWorth_0 ++ []
theorem dksX3_isWorth_0 : cX3_isWorth.data.toList.drop 0 = dktX3_isWorth_0 := by decide +kernel
theorem dX3_isWorth_0 : decode cX3_isWorth 0 = .ok (.iload_n 0, 1) := dk_26 (dk_at dksX3_isWorth_0 0 rfl rfl)
theorem dX3_isWorth_1 : decode cX3_isWorth 1 = .ok (.i2l, 1) := dk_133 (dk_at dksX3_isWorth_0 1 rfl rfl)
theorem dX3_isWorth_2 : decode cX3_isWorth 2 = .ok (.ldc2_w 178, 3) := dk_20 0 178 (dk_at dksX3_isWorth_0 2 rfl rfl)
theorem dX3_isWorth_5 : decode cX3_isWorth 5 = .ok (.ldc2_w 174, 3) := dk_20 0 174 (dk_at dksX3_isWorth_0 5 rfl rfl)
theorem dX3_isWorth_8 : decode cX3_isWorth 8 = .ok (.invokestatic 162, 3) := dk_184 0 162 (dk_at dksX3_isWorth_0 8 rfl rfl)
theorem dX3_isWorth_11 : decode cX3_isWorth 11 = .ok (.ireturn, 1) := dk_172 (dk_at dksX3_isWorth_0 11 rfl rfl)
abbrev cX3_isDigit1 : ByteArray := prog_34_method_10_code
def yX3_isDigit1 : MethodName := ⟨RX3, "isDigit1", "(I)Z"⟩
def dkwX3_isDigit1_0 : List UInt8 := [26, 133, 9, 20, 0, 172, 184, 0, 162, 172]
abbrev dktX3_isDigit1_0 : List UInt8 := dkwX3_isDigit1_0 ++ []
theorem dksX3_isDigit1_0 : cX3_isDigit1.data.toList.drop 0 = dktX3_isDigit1_0 := by decide +kernel
theorem dX3_isDigit1_0 : decode cX3_isDigit1 0 = .ok (.iload_n 0, 1) := dk_26 (dk_at dksX3_isDigit1_0 0 rfl rfl)
theorem dX3_isDigit1_1 : decode cX3_isDigit1 1 = .ok (.i2l, 1) := dk_133 (dk_at dksX3_isDigit1_0 1 rfl rfl)
theorem dX3_isDigit1_2 : decode cX3_isDigit1 2 = .ok (.lconst 0, 1) := dk_9 (dk_at dksX3_isDigit1_0 2 rfl rfl)
theorem dX3_isDigit1_3 : decode cX3_isDigit1 3 = .ok (.ldc2_w 172, 3) := dk_20 0 172 (dk_at dksX3_isDigit1_0 3 rfl rfl)
theorem dX3_isDigit1_6 : decode cX3_isDigit1 6 = .ok (.invokestatic 162, 3) := dk_184 0 162 (dk_at dksX3_isDigit1_0 6 rfl rfl)
theorem dX3_isDigit1_9 : decode cX3_isDigit1 9 = .ok (.ireturn, 1) := dk_172 (dk_at dksX3_isDigit1_0 9 rfl rfl)
abbrev cX3_card : ByteArray := prog_34_method_16_code
def yX3_card : MethodName := ⟨RX3, "card", "(III)I"⟩
def dkwX3_card_1 : List UInt8 := [16, 253, 172, 42, 27, 28, 29, 182, 0, 194, 42, 180, 0, 169, 4, 100, 172]
abbrev dktX3_card_1 : List UInt8 := dkwX3_card_1 ++ []
def dkwX3_card_0 : List UInt8 := [42, 27, 133, 28, 133, 29, 133, 182, 0, 191, 154, 0, 5, 2, 172, 42, 180, 0, 169, 16, 20, 160, 0, 6]
abbrev dktX3_card_0 : List UInt8 := dkwX3_card_0 ++ dktX3_card_1
theorem dksX3_card_0 : cX3_card.data.toList.drop 0 = dktX3_card_0 := by decide +kernel
theorem dksX3_card_1 : cX3_card.data.toList.drop 24 = dktX3_card_1 := dk_seg dksX3_card_0 24 rfl rfl
theorem dX3_card_0 : decode cX3_card 0 = .ok (.aload_n 0, 1) := dk_42 (dk_at dksX3_card_0 0 rfl rfl)
theorem dX3_card_1 : decode cX3_card 1 = .ok (.iload_n 1, 1) := dk_27 (dk_at dksX3_card_0 1 rfl rfl)
theorem dX3_card_2 : decode cX3_card 2 = .ok (.i2l, 1) := dk_133 (dk_at dksX3_card_0 2 rfl rfl)
theorem dX3_card_3 : decode cX3_card 3 = .ok (.iload_n 2, 1) := dk_28 (dk_at dksX3_card_0 3 rfl rfl)
theorem dX3_card_4 : decode cX3_card 4 = .ok (.i2l, 1) := dk_133 (dk_at dksX3_card_0 4 rfl rfl)
theorem dX3_card_5 : decode cX3_card 5 = .ok (.iload_n 3, 1) := dk_29 (dk_at dksX3_card_0 5 rfl rfl)
theorem dX3_card_6 : decode cX3_card 6 = .ok (.i2l, 1) := dk_133 (dk_at dksX3_card_0 6 rfl rfl)
theorem dX3_card_7 : decode cX3_card 7 = .ok (.invokevirtual 191, 3) := dk_182 0 191 (dk_at dksX3_card_0 7 rfl rfl)
theorem dX3_card_10 : decode cX3_card 10 = .ok (.ifCond .ne 5, 3) := dk_154 0 5 (dk_at dksX3_card_0 10 rfl rfl)
theorem dX3_card_13 : decode cX3_card 13 = .ok (.iconst (-1), 1) := dk_2 (dk_at dksX3_card_0 13 rfl rfl)
theorem dX3_card_14 : decode cX3_card 14 = .ok (.ireturn, 1) := dk_172 (dk_at dksX3_card_0 14 rfl rfl)
theorem dX3_card_15 : decode cX3_card 15 = .ok (.aload_n 0, 1) := dk_42 (dk_at dksX3_card_0 15 rfl rfl)
theorem dX3_card_16 : decode cX3_card 16 = .ok (.getfield 169, 3) := dk_180 0 169 (dk_at dksX3_card_0 16 rfl rfl)
theorem dX3_card_19 : decode cX3_card 19 = .ok (.bipush 20, 2) := dk_16 20 (dk_at dksX3_card_0 19 rfl rfl)
theorem dX3_card_21 : decode cX3_card 21 = .ok (.if_icmp .ne 6, 3) := dk_160 0 6 (dk_at dksX3_card_0 21 rfl rfl)
theorem dX3_card_24 : decode cX3_card 24 = .ok (.bipush (-3), 2) := dk_16 253 (dk_at dksX3_card_1 0 rfl rfl)
theorem dX3_card_26 : decode cX3_card 26 = .ok (.ireturn, 1) := dk_172 (dk_at dksX3_card_1 2 rfl rfl)
theorem dX3_card_27 : decode cX3_card 27 = .ok (.aload_n 0, 1) := dk_42 (dk_at dksX3_card_1 3 rfl rfl)
theorem dX3_card_28 : decode cX3_card 28 = .ok (.iload_n 1, 1) := dk_27 (dk_at dksX3_card_1 4 rfl rfl)
theorem dX3_card_29 : decode cX3_card 29 = .ok (.iload_n 2, 1) := dk_28 (dk_at dksX3_card_1 5 rfl rfl)
theorem dX3_card_30 : decode cX3_card 30 = .ok (.iload_n 3, 1) := dk_29 (dk_at dksX3_card_1 6 rfl rfl)
theorem dX3_card_31 : decode cX3_card 31 = .ok (.invokevirtual 194, 3) := dk_182 0 194 (dk_at dksX3_card_1 7 rfl rfl)
theorem dX3_card_34 : decode cX3_card 34 = .ok (.aload_n 0, 1) := dk_42 (dk_at dksX3_card_1 10 rfl rfl)
theorem dX3_card_35 : decode cX3_card 35 = .ok (.getfield 169, 3) := dk_180 0 169 (dk_at dksX3_card_1 11 rfl rfl)
theorem dX3_card_38 : decode cX3_card 38 = .ok (.iconst 1, 1) := dk_4 (dk_at dksX3_card_1 14 rfl rfl)
theorem dX3_card_39 : decode cX3_card 39 = .ok (.isub, 1) := dk_100 (dk_at dksX3_card_1 15 rfl rfl)
theorem dX3_card_40 : decode cX3_card 40 = .ok (.ireturn, 1) := dk_172 (dk_at dksX3_card_1 16 rfl rfl)
abbrev cX3_isOne : ByteArray := prog_34_method_14_code
def yX3_isOne : MethodName := ⟨RX3, "isOne", "(JJJ)Z"⟩
def dkwX3_isOne_1 : List UInt8 := [184, 0, 162, 153, 0, 19, 22, 5, 9, 20, 0, 189, 184, 0, 162, 153, 0, 7, 4, 167, 0, 4, 3, 172]
abbrev dktX3_isOne_1 : List UInt8 := dkwX3_isOne_1 ++ []
def dkwX3_isOne_0 : List UInt8 := [31, 9, 42, 180, 0, 166, 4, 100, 133, 184, 0, 162, 153, 0, 32, 33, 20, 0, 187, 20, 0, 172]
abbrev dktX3_isOne_0 : List UInt8 := dkwX3_isOne_0 ++ dktX3_isOne_1
theorem dksX3_isOne_0 : cX3_isOne.data.toList.drop 0 = dktX3_isOne_0 := by decide +kernel
theorem dksX3_isOne_1 : cX3_isOne.data.toList.drop 22 = dktX3_isOne_1 := dk_seg dksX3_isOne_0 22 rfl rfl
theorem dX3_isOne_0 : decode cX3_isOne 0 = .ok (.lload_n 1, 1) := dk_31 (dk_at dksX3_isOne_0 0 rfl rfl)
theorem dX3_isOne_1 : decode cX3_isOne 1 = .ok (.lconst 0, 1) := dk_9 (dk_at dksX3_isOne_0 1 rfl rfl)
theorem dX3_isOne_2 : decode cX3_isOne 2 = .ok (.aload_n 0, 1) := dk_42 (dk_at dksX3_isOne_0 2 rfl rfl)
theorem dX3_isOne_3 : decode cX3_isOne 3 = .ok (.getfield 166, 3) := dk_180 0 166 (dk_at dksX3_isOne_0 3 rfl rfl)
theorem dX3_isOne_6 : decode cX3_isOne 6 = .ok (.iconst 1, 1) := dk_4 (dk_at dksX3_isOne_0 6 rfl rfl)
theorem dX3_isOne_7 : decode cX3_isOne 7 = .ok (.isub, 1) := dk_100 (dk_at dksX3_isOne_0 7 rfl rfl)
theorem dX3_isOne_8 : decode cX3_isOne 8 = .ok (.i2l, 1) := dk_133 (dk_at dksX3_isOne_0 8 rfl rfl)
theorem dX3_isOne_9 : decode cX3_isOne 9 = .ok (.invokestatic 162, 3) := dk_184 0 162 (dk_at dksX3_isOne_0 9 rfl rfl)
theorem dX3_isOne_12 : decode cX3_isOne 12 = .ok (.ifCond .eq 32, 3) := dk_153 0 32 (dk_at dksX3_isOne_0 12 rfl rfl)
theorem dX3_isOne_15 : decode cX3_isOne 15 = .ok (.lload_n 3, 1) := dk_33 (dk_at dksX3_isOne_0 15 rfl rfl)
theorem dX3_isOne_16 : decode cX3_isOne 16 = .ok (.ldc2_w 187, 3) := dk_20 0 187 (dk_at dksX3_isOne_0 16 rfl rfl)
theorem dX3_isOne_19 : decode cX3_isOne 19 = .ok (.ldc2_w 172, 3) := dk_20 0 172 (dk_at dksX3_isOne_0 19 rfl rfl)
theorem dX3_isOne_22 : decode cX3_isOne 22 = .ok (.invokestatic 162, 3) := dk_184 0 162 (dk_at dksX3_isOne_1 0 rfl rfl)
theorem dX3_isOne_25 : decode cX3_isOne 25 = .ok (.ifCond .eq 19, 3) := dk_153 0 19 (dk_at dksX3_isOne_1 3 rfl rfl)
theorem dX3_isOne_28 : decode cX3_isOne 28 = .ok (.lload 5, 2) := dk_22 5 (dk_at dksX3_isOne_1 6 rfl rfl)
theorem dX3_isOne_30 : decode cX3_isOne 30 = .ok (.lconst 0, 1) := dk_9 (dk_at dksX3_isOne_1 8 rfl rfl)
theorem dX3_isOne_31 : decode cX3_isOne 31 = .ok (.ldc2_w 189, 3) := dk_20 0 189 (dk_at dksX3_isOne_1 9 rfl rfl)
theorem dX3_isOne_34 : decode cX3_isOne 34 = .ok (.invokestatic 162, 3) := dk_184 0 162 (dk_at dksX3_isOne_1 12 rfl rfl)
theorem dX3_isOne_37 : decode cX3_isOne 37 = .ok (.ifCond .eq 7, 3) := dk_153 0 7 (dk_at dksX3_isOne_1 15 rfl rfl)
theorem dX3_isOne_40 : decode cX3_isOne 40 = .ok (.iconst 1, 1) := dk_4 (dk_at dksX3_isOne_1 18 rfl rfl)
theorem dX3_isOne_41 : decode cX3_isOne 41 = .ok (.goto 4, 3) := dk_167 0 4 (dk_at dksX3_isOne_1 19 rfl rfl)
theorem dX3_isOne_44 : decode cX3_isOne 44 = .ok (.iconst 0, 1) := dk_3 (dk_at dksX3_isOne_1 22 rfl rfl)
theorem dX3_isOne_45 : decode cX3_isOne 45 = .ok (.ireturn, 1) := dk_172 (dk_at dksX3_isOne_1 23 rfl rfl)
abbrev cX3_adds : ByteArray := prog_34_method_15_code
def yX3_adds : MethodName := ⟨RX3, "adds", "(III)V"⟩
def dkwX3_adds_1 : List UInt8 := [42, 180, 0, 169, 29, 79, 42, 89, 180, 0, 169, 4, 96, 181, 0, 169, 177]
abbrev dktX3_adds_1 : List UInt8 := dkwX3_adds_1 ++ []
def dkwX3_adds_0 : List UInt8 := [42, 180, 0, 25, 42, 180, 0, 169, 27, 79, 42, 180, 0, 28, 42, 180, 0, 169, 28, 79, 42, 180, 0, 31]
abbrev dktX3_adds_0 : List UInt8 := dkwX3_adds_0 ++ dktX3_adds_1
theorem dksX3_adds_0 : cX3_adds.data.toList.drop 0 = dktX3_adds_0 := by decide +kernel
theorem dksX3_adds_1 : cX3_adds.data.toList.drop 24 = dktX3_adds_1 := dk_seg dksX3_adds_0 24 rfl rfl
theorem dX3_adds_0 : decode cX3_adds 0 = .ok (.aload_n 0, 1) := dk_42 (dk_at dksX3_adds_0 0 rfl rfl)
theorem dX3_adds_1 : decode cX3_adds 1 = .ok (.getfield 25, 3) := dk_180 0 25 (dk_at dksX3_adds_0 1 rfl rfl)
theorem dX3_adds_4 : decode cX3_adds 4 = .ok (.aload_n 0, 1) := dk_42 (dk_at dksX3_adds_0 4 rfl rfl)
theorem dX3_adds_5 : decode cX3_adds 5 = .ok (.getfield 169, 3) := dk_180 0 169 (dk_at dksX3_adds_0 5 rfl rfl)
theorem dX3_adds_8 : decode cX3_adds 8 = .ok (.iload_n 1, 1) := dk_27 (dk_at dksX3_adds_0 8 rfl rfl)
theorem dX3_adds_9 : decode cX3_adds 9 = .ok (.iastore, 1) := dk_79 (dk_at dksX3_adds_0 9 rfl rfl)
theorem dX3_adds_10 : decode cX3_adds 10 = .ok (.aload_n 0, 1) := dk_42 (dk_at dksX3_adds_0 10 rfl rfl)
theorem dX3_adds_11 : decode cX3_adds 11 = .ok (.getfield 28, 3) := dk_180 0 28 (dk_at dksX3_adds_0 11 rfl rfl)
theorem dX3_adds_14 : decode cX3_adds 14 = .ok (.aload_n 0, 1) := dk_42 (dk_at dksX3_adds_0 14 rfl rfl)
theorem dX3_adds_15 : decode cX3_adds 15 = .ok (.getfield 169, 3) := dk_180 0 169 (dk_at dksX3_adds_0 15 rfl rfl)
theorem dX3_adds_18 : decode cX3_adds 18 = .ok (.iload_n 2, 1) := dk_28 (dk_at dksX3_adds_0 18 rfl rfl)
theorem dX3_adds_19 : decode cX3_adds 19 = .ok (.iastore, 1) := dk_79 (dk_at dksX3_adds_0 19 rfl rfl)
theorem dX3_adds_20 : decode cX3_adds 20 = .ok (.aload_n 0, 1) := dk_42 (dk_at dksX3_adds_0 20 rfl rfl)
theorem dX3_adds_21 : decode cX3_adds 21 = .ok (.getfield 31, 3) := dk_180 0 31 (dk_at dksX3_adds_0 21 rfl rfl)
theorem dX3_adds_24 : decode cX3_adds 24 = .ok (.aload_n 0, 1) := dk_42 (dk_at dksX3_adds_1 0 rfl rfl)
theorem dX3_adds_25 : decode cX3_adds 25 = .ok (.getfield 169, 3) := dk_180 0 169 (dk_at dksX3_adds_1 1 rfl rfl)
theorem dX3_adds_28 : decode cX3_adds 28 = .ok (.iload_n 3, 1) := dk_29 (dk_at dksX3_adds_1 4 rfl rfl)
theorem dX3_adds_29 : decode cX3_adds 29 = .ok (.iastore, 1) := dk_79 (dk_at dksX3_adds_1 5 rfl rfl)
theorem dX3_adds_30 : decode cX3_adds 30 = .ok (.aload_n 0, 1) := dk_42 (dk_at dksX3_adds_1 6 rfl rfl)
theorem dX3_adds_31 : decode cX3_adds 31 = .ok (.dup, 1) := dk_89 (dk_at dksX3_adds_1 7 rfl rfl)
theorem dX3_adds_32 : decode cX3_adds 32 = .ok (.getfield 169, 3) := dk_180 0 169 (dk_at dksX3_adds_1 8 rfl rfl)
theorem dX3_adds_35 : decode cX3_adds 35 = .ok (.iconst 1, 1) := dk_4 (dk_at dksX3_adds_1 11 rfl rfl)
theorem dX3_adds_36 : decode cX3_adds 36 = .ok (.iadd, 1) := dk_96 (dk_at dksX3_adds_1 12 rfl rfl)
theorem dX3_adds_37 : decode cX3_adds 37 = .ok (.putfield 169, 3) := dk_181 0 169 (dk_at dksX3_adds_1 13 rfl rfl)
theorem dX3_adds_40 : decode cX3_adds 40 = .ok (.return_, 1) := dk_177 (dk_at dksX3_adds_1 16 rfl rfl)
abbrev cX3_cards : ByteArray := prog_34_method_17_code
def yX3_cards : MethodName := ⟨RX3, "cards", "(III)I"⟩
def dkwX3_cards_9 : List UInt8 := [167, 255, 115, 21, 4, 172]
abbrev dktX3_cards_9 : List UInt8 := dkwX3_cards_9 ++ []
def dkwX3_cards_8 : List UInt8 := [21, 6, 4, 96, 47, 136, 42, 180, 0, 136, 21, 6, 5, 96, 47, 136, 182, 0, 194, 132, 4, 1]
abbrev dktX3_cards_8 : List UInt8 := dkwX3_cards_8 ++ dktX3_cards_9
def dkwX3_cards_7 : List UInt8 := [167, 0, 4, 3, 54, 5, 21, 5, 153, 0, 38, 42, 42, 180, 0, 136, 21, 6, 47, 136, 42, 180, 0, 136]
abbrev dktX3_cards_7 : List UInt8 := dkwX3_cards_7 ++ dktX3_cards_8
def dkwX3_cards_6 : List UInt8 := [180, 0, 136, 21, 6, 4, 96, 47, 42, 180, 0, 136, 21, 6, 5, 96, 47, 182, 0, 191, 153, 0, 7, 4]
abbrev dktX3_cards_6 : List UInt8 := dkwX3_cards_6 ++ dktX3_cards_7
def dkwX3_cards_5 : List UInt8 := [28, 96, 6, 21, 4, 104, 96, 54, 6, 21, 5, 153, 0, 39, 42, 42, 180, 0, 136, 21, 6, 47, 42]
abbrev dktX3_cards_5 : List UInt8 := dkwX3_cards_5 ++ dktX3_cards_6
def dkwX3_cards_4 : List UInt8 := [100, 163, 0, 16, 42, 180, 0, 169, 16, 20, 162, 0, 7, 4, 167, 0, 4, 3, 54, 5, 16, 60, 27, 104]
abbrev dktX3_cards_4 : List UInt8 := dkwX3_cards_4 ++ dktX3_cards_5
def dkwX3_cards_3 : List UInt8 := [21, 5, 153, 0, 142, 21, 4, 29, 162, 0, 136, 28, 42, 180, 0, 133, 27, 46, 6, 100, 6, 21, 4, 104]
abbrev dktX3_cards_3 : List UInt8 := dkwX3_cards_3 ++ dktX3_cards_4
def dkwX3_cards_2 : List UInt8 := [54, 4, 42, 180, 0, 130, 27, 46, 16, 51, 160, 0, 11, 28, 155, 0, 7, 4, 167, 0, 4, 3, 54, 5]
abbrev dktX3_cards_2 : List UInt8 := dkwX3_cards_2 ++ dktX3_cards_3
def dkwX3_cards_1 : List UInt8 := [180, 0, 130, 27, 46, 155, 0, 17, 42, 180, 0, 130, 27, 46, 16, 51, 159, 0, 6, 16, 244, 172, 3]
abbrev dktX3_cards_1 : List UInt8 := dkwX3_cards_1 ++ dktX3_cards_2
def dkwX3_cards_0 : List UInt8 := [27, 184, 0, 198, 153, 0, 15, 29, 133, 10, 20, 0, 201, 184, 0, 162, 154, 0, 5, 2, 172, 42]
abbrev dktX3_cards_0 : List UInt8 := dkwX3_cards_0 ++ dktX3_cards_1
theorem dksX3_cards_0 : cX3_cards.data.toList.drop 0 = dktX3_cards_0 := by decide +kernel
theorem dksX3_cards_1 : cX3_cards.data.toList.drop 22 = dktX3_cards_1 := dk_seg dksX3_cards_0 22 rfl rfl
theorem dksX3_cards_2 : cX3_cards.data.toList.drop 45 = dktX3_cards_2 := dk_seg dksX3_cards_1 23 rfl rfl
theorem dksX3_cards_3 : cX3_cards.data.toList.drop 69 = dktX3_cards_3 := dk_seg dksX3_cards_2 24 rfl rfl
theorem dksX3_cards_4 : cX3_cards.data.toList.drop 93 = dktX3_cards_4 := dk_seg dksX3_cards_3 24 rfl rfl
theorem dksX3_cards_5 : cX3_cards.data.toList.drop 117 = dktX3_cards_5 := dk_seg dksX3_cards_4 24 rfl rfl
theorem dksX3_cards_6 : cX3_cards.data.toList.drop 140 = dktX3_cards_6 := dk_seg dksX3_cards_5 23 rfl rfl
theorem dksX3_cards_7 : cX3_cards.data.toList.drop 164 = dktX3_cards_7 := dk_seg dksX3_cards_6 24 rfl rfl
theorem dksX3_cards_8 : cX3_cards.data.toList.drop 188 = dktX3_cards_8 := dk_seg dksX3_cards_7 24 rfl rfl
theorem dksX3_cards_9 : cX3_cards.data.toList.drop 210 = dktX3_cards_9 := dk_seg dksX3_cards_8 22 rfl rfl
theorem dX3_cards_0 : decode cX3_cards 0 = .ok (.iload_n 1, 1) := dk_27 (dk_at dksX3_cards_0 0 rfl rfl)
theorem dX3_cards_1 : decode cX3_cards 1 = .ok (.invokestatic 198, 3) := dk_184 0 198 (dk_at dksX3_cards_0 1 rfl rfl)
theorem dX3_cards_4 : decode cX3_cards 4 = .ok (.ifCond .eq 15, 3) := dk_153 0 15 (dk_at dksX3_cards_0 4 rfl rfl)
theorem dX3_cards_7 : decode cX3_cards 7 = .ok (.iload_n 3, 1) := dk_29 (dk_at dksX3_cards_0 7 rfl rfl)
theorem dX3_cards_8 : decode cX3_cards 8 = .ok (.i2l, 1) := dk_133 (dk_at dksX3_cards_0 8 rfl rfl)
theorem dX3_cards_9 : decode cX3_cards 9 = .ok (.lconst 1, 1) := dk_10 (dk_at dksX3_cards_0 9 rfl rfl)
theorem dX3_cards_10 : decode cX3_cards 10 = .ok (.ldc2_w 201, 3) := dk_20 0 201 (dk_at dksX3_cards_0 10 rfl rfl)
theorem dX3_cards_13 : decode cX3_cards 13 = .ok (.invokestatic 162, 3) := dk_184 0 162 (dk_at dksX3_cards_0 13 rfl rfl)
theorem dX3_cards_16 : decode cX3_cards 16 = .ok (.ifCond .ne 5, 3) := dk_154 0 5 (dk_at dksX3_cards_0 16 rfl rfl)
theorem dX3_cards_19 : decode cX3_cards 19 = .ok (.iconst (-1), 1) := dk_2 (dk_at dksX3_cards_0 19 rfl rfl)
theorem dX3_cards_20 : decode cX3_cards 20 = .ok (.ireturn, 1) := dk_172 (dk_at dksX3_cards_0 20 rfl rfl)
theorem dX3_cards_21 : decode cX3_cards 21 = .ok (.aload_n 0, 1) := dk_42 (dk_at dksX3_cards_0 21 rfl rfl)
theorem dX3_cards_22 : decode cX3_cards 22 = .ok (.getfield 130, 3) := dk_180 0 130 (dk_at dksX3_cards_1 0 rfl rfl)
theorem dX3_cards_25 : decode cX3_cards 25 = .ok (.iload_n 1, 1) := dk_27 (dk_at dksX3_cards_1 3 rfl rfl)
theorem dX3_cards_26 : decode cX3_cards 26 = .ok (.iaload, 1) := dk_46 (dk_at dksX3_cards_1 4 rfl rfl)
theorem dX3_cards_27 : decode cX3_cards 27 = .ok (.ifCond .lt 17, 3) := dk_155 0 17 (dk_at dksX3_cards_1 5 rfl rfl)
theorem dX3_cards_30 : decode cX3_cards 30 = .ok (.aload_n 0, 1) := dk_42 (dk_at dksX3_cards_1 8 rfl rfl)
theorem dX3_cards_31 : decode cX3_cards 31 = .ok (.getfield 130, 3) := dk_180 0 130 (dk_at dksX3_cards_1 9 rfl rfl)
theorem dX3_cards_34 : decode cX3_cards 34 = .ok (.iload_n 1, 1) := dk_27 (dk_at dksX3_cards_1 12 rfl rfl)
theorem dX3_cards_35 : decode cX3_cards 35 = .ok (.iaload, 1) := dk_46 (dk_at dksX3_cards_1 13 rfl rfl)
theorem dX3_cards_36 : decode cX3_cards 36 = .ok (.bipush 51, 2) := dk_16 51 (dk_at dksX3_cards_1 14 rfl rfl)
theorem dX3_cards_38 : decode cX3_cards 38 = .ok (.if_icmp .eq 6, 3) := dk_159 0 6 (dk_at dksX3_cards_1 16 rfl rfl)
theorem dX3_cards_41 : decode cX3_cards 41 = .ok (.bipush (-12), 2) := dk_16 244 (dk_at dksX3_cards_1 19 rfl rfl)
theorem dX3_cards_43 : decode cX3_cards 43 = .ok (.ireturn, 1) := dk_172 (dk_at dksX3_cards_1 21 rfl rfl)
theorem dX3_cards_44 : decode cX3_cards 44 = .ok (.iconst 0, 1) := dk_3 (dk_at dksX3_cards_1 22 rfl rfl)
theorem dX3_cards_45 : decode cX3_cards 45 = .ok (.istore 4, 2) := dk_54 4 (dk_at dksX3_cards_2 0 rfl rfl)
theorem dX3_cards_47 : decode cX3_cards 47 = .ok (.aload_n 0, 1) := dk_42 (dk_at dksX3_cards_2 2 rfl rfl)
theorem dX3_cards_48 : decode cX3_cards 48 = .ok (.getfield 130, 3) := dk_180 0 130 (dk_at dksX3_cards_2 3 rfl rfl)
theorem dX3_cards_51 : decode cX3_cards 51 = .ok (.iload_n 1, 1) := dk_27 (dk_at dksX3_cards_2 6 rfl rfl)
theorem dX3_cards_52 : decode cX3_cards 52 = .ok (.iaload, 1) := dk_46 (dk_at dksX3_cards_2 7 rfl rfl)
theorem dX3_cards_53 : decode cX3_cards 53 = .ok (.bipush 51, 2) := dk_16 51 (dk_at dksX3_cards_2 8 rfl rfl)
theorem dX3_cards_55 : decode cX3_cards 55 = .ok (.if_icmp .ne 11, 3) := dk_160 0 11 (dk_at dksX3_cards_2 10 rfl rfl)
theorem dX3_cards_58 : decode cX3_cards 58 = .ok (.iload_n 2, 1) := dk_28 (dk_at dksX3_cards_2 13 rfl rfl)
theorem dX3_cards_59 : decode cX3_cards 59 = .ok (.ifCond .lt 7, 3) := dk_155 0 7 (dk_at dksX3_cards_2 14 rfl rfl)
theorem dX3_cards_62 : decode cX3_cards 62 = .ok (.iconst 1, 1) := dk_4 (dk_at dksX3_cards_2 17 rfl rfl)
theorem dX3_cards_63 : decode cX3_cards 63 = .ok (.goto 4, 3) := dk_167 0 4 (dk_at dksX3_cards_2 18 rfl rfl)
theorem dX3_cards_66 : decode cX3_cards 66 = .ok (.iconst 0, 1) := dk_3 (dk_at dksX3_cards_2 21 rfl rfl)
theorem dX3_cards_67 : decode cX3_cards 67 = .ok (.istore 5, 2) := dk_54 5 (dk_at dksX3_cards_2 22 rfl rfl)
theorem dX3_cards_69 : decode cX3_cards 69 = .ok (.iload 5, 2) := dk_21 5 (dk_at dksX3_cards_3 0 rfl rfl)
theorem dX3_cards_71 : decode cX3_cards 71 = .ok (.ifCond .eq 142, 3) := dk_153 0 142 (dk_at dksX3_cards_3 2 rfl rfl)
theorem dX3_cards_74 : decode cX3_cards 74 = .ok (.iload 4, 2) := dk_21 4 (dk_at dksX3_cards_3 5 rfl rfl)
theorem dX3_cards_76 : decode cX3_cards 76 = .ok (.iload_n 3, 1) := dk_29 (dk_at dksX3_cards_3 7 rfl rfl)
theorem dX3_cards_77 : decode cX3_cards 77 = .ok (.if_icmp .ge 136, 3) := dk_162 0 136 (dk_at dksX3_cards_3 8 rfl rfl)
theorem dX3_cards_80 : decode cX3_cards 80 = .ok (.iload_n 2, 1) := dk_28 (dk_at dksX3_cards_3 11 rfl rfl)
theorem dX3_cards_81 : decode cX3_cards 81 = .ok (.aload_n 0, 1) := dk_42 (dk_at dksX3_cards_3 12 rfl rfl)
theorem dX3_cards_82 : decode cX3_cards 82 = .ok (.getfield 133, 3) := dk_180 0 133 (dk_at dksX3_cards_3 13 rfl rfl)
theorem dX3_cards_85 : decode cX3_cards 85 = .ok (.iload_n 1, 1) := dk_27 (dk_at dksX3_cards_3 16 rfl rfl)
theorem dX3_cards_86 : decode cX3_cards 86 = .ok (.iaload, 1) := dk_46 (dk_at dksX3_cards_3 17 rfl rfl)
theorem dX3_cards_87 : decode cX3_cards 87 = .ok (.iconst 3, 1) := dk_6 (dk_at dksX3_cards_3 18 rfl rfl)
theorem dX3_cards_88 : decode cX3_cards 88 = .ok (.isub, 1) := dk_100 (dk_at dksX3_cards_3 19 rfl rfl)
theorem dX3_cards_89 : decode cX3_cards 89 = .ok (.iconst 3, 1) := dk_6 (dk_at dksX3_cards_3 20 rfl rfl)
theorem dX3_cards_90 : decode cX3_cards 90 = .ok (.iload 4, 2) := dk_21 4 (dk_at dksX3_cards_3 21 rfl rfl)
theorem dX3_cards_92 : decode cX3_cards 92 = .ok (.imul, 1) := dk_104 (dk_at dksX3_cards_3 23 rfl rfl)
theorem dX3_cards_93 : decode cX3_cards 93 = .ok (.isub, 1) := dk_100 (dk_at dksX3_cards_4 0 rfl rfl)
theorem dX3_cards_94 : decode cX3_cards 94 = .ok (.if_icmp .gt 16, 3) := dk_163 0 16 (dk_at dksX3_cards_4 1 rfl rfl)
theorem dX3_cards_97 : decode cX3_cards 97 = .ok (.aload_n 0, 1) := dk_42 (dk_at dksX3_cards_4 4 rfl rfl)
theorem dX3_cards_98 : decode cX3_cards 98 = .ok (.getfield 169, 3) := dk_180 0 169 (dk_at dksX3_cards_4 5 rfl rfl)
theorem dX3_cards_101 : decode cX3_cards 101 = .ok (.bipush 20, 2) := dk_16 20 (dk_at dksX3_cards_4 8 rfl rfl)
theorem dX3_cards_103 : decode cX3_cards 103 = .ok (.if_icmp .ge 7, 3) := dk_162 0 7 (dk_at dksX3_cards_4 10 rfl rfl)
theorem dX3_cards_106 : decode cX3_cards 106 = .ok (.iconst 1, 1) := dk_4 (dk_at dksX3_cards_4 13 rfl rfl)
theorem dX3_cards_107 : decode cX3_cards 107 = .ok (.goto 4, 3) := dk_167 0 4 (dk_at dksX3_cards_4 14 rfl rfl)
theorem dX3_cards_110 : decode cX3_cards 110 = .ok (.iconst 0, 1) := dk_3 (dk_at dksX3_cards_4 17 rfl rfl)
theorem dX3_cards_111 : decode cX3_cards 111 = .ok (.istore 5, 2) := dk_54 5 (dk_at dksX3_cards_4 18 rfl rfl)
theorem dX3_cards_113 : decode cX3_cards 113 = .ok (.bipush 60, 2) := dk_16 60 (dk_at dksX3_cards_4 20 rfl rfl)
theorem dX3_cards_115 : decode cX3_cards 115 = .ok (.iload_n 1, 1) := dk_27 (dk_at dksX3_cards_4 22 rfl rfl)
theorem dX3_cards_116 : decode cX3_cards 116 = .ok (.imul, 1) := dk_104 (dk_at dksX3_cards_4 23 rfl rfl)
theorem dX3_cards_117 : decode cX3_cards 117 = .ok (.iload_n 2, 1) := dk_28 (dk_at dksX3_cards_5 0 rfl rfl)
theorem dX3_cards_118 : decode cX3_cards 118 = .ok (.iadd, 1) := dk_96 (dk_at dksX3_cards_5 1 rfl rfl)
theorem dX3_cards_119 : decode cX3_cards 119 = .ok (.iconst 3, 1) := dk_6 (dk_at dksX3_cards_5 2 rfl rfl)
theorem dX3_cards_120 : decode cX3_cards 120 = .ok (.iload 4, 2) := dk_21 4 (dk_at dksX3_cards_5 3 rfl rfl)
theorem dX3_cards_122 : decode cX3_cards 122 = .ok (.imul, 1) := dk_104 (dk_at dksX3_cards_5 5 rfl rfl)
theorem dX3_cards_123 : decode cX3_cards 123 = .ok (.iadd, 1) := dk_96 (dk_at dksX3_cards_5 6 rfl rfl)
theorem dX3_cards_124 : decode cX3_cards 124 = .ok (.istore 6, 2) := dk_54 6 (dk_at dksX3_cards_5 7 rfl rfl)
theorem dX3_cards_126 : decode cX3_cards 126 = .ok (.iload 5, 2) := dk_21 5 (dk_at dksX3_cards_5 9 rfl rfl)
theorem dX3_cards_128 : decode cX3_cards 128 = .ok (.ifCond .eq 39, 3) := dk_153 0 39 (dk_at dksX3_cards_5 11 rfl rfl)
theorem dX3_cards_131 : decode cX3_cards 131 = .ok (.aload_n 0, 1) := dk_42 (dk_at dksX3_cards_5 14 rfl rfl)
theorem dX3_cards_132 : decode cX3_cards 132 = .ok (.aload_n 0, 1) := dk_42 (dk_at dksX3_cards_5 15 rfl rfl)
theorem dX3_cards_133 : decode cX3_cards 133 = .ok (.getfield 136, 3) := dk_180 0 136 (dk_at dksX3_cards_5 16 rfl rfl)
theorem dX3_cards_136 : decode cX3_cards 136 = .ok (.iload 6, 2) := dk_21 6 (dk_at dksX3_cards_5 19 rfl rfl)
theorem dX3_cards_138 : decode cX3_cards 138 = .ok (.laload, 1) := dk_47 (dk_at dksX3_cards_5 21 rfl rfl)
theorem dX3_cards_139 : decode cX3_cards 139 = .ok (.aload_n 0, 1) := dk_42 (dk_at dksX3_cards_5 22 rfl rfl)
theorem dX3_cards_140 : decode cX3_cards 140 = .ok (.getfield 136, 3) := dk_180 0 136 (dk_at dksX3_cards_6 0 rfl rfl)
theorem dX3_cards_143 : decode cX3_cards 143 = .ok (.iload 6, 2) := dk_21 6 (dk_at dksX3_cards_6 3 rfl rfl)
theorem dX3_cards_145 : decode cX3_cards 145 = .ok (.iconst 1, 1) := dk_4 (dk_at dksX3_cards_6 5 rfl rfl)
theorem dX3_cards_146 : decode cX3_cards 146 = .ok (.iadd, 1) := dk_96 (dk_at dksX3_cards_6 6 rfl rfl)
theorem dX3_cards_147 : decode cX3_cards 147 = .ok (.laload, 1) := dk_47 (dk_at dksX3_cards_6 7 rfl rfl)
theorem dX3_cards_148 : decode cX3_cards 148 = .ok (.aload_n 0, 1) := dk_42 (dk_at dksX3_cards_6 8 rfl rfl)
theorem dX3_cards_149 : decode cX3_cards 149 = .ok (.getfield 136, 3) := dk_180 0 136 (dk_at dksX3_cards_6 9 rfl rfl)
theorem dX3_cards_152 : decode cX3_cards 152 = .ok (.iload 6, 2) := dk_21 6 (dk_at dksX3_cards_6 12 rfl rfl)
theorem dX3_cards_154 : decode cX3_cards 154 = .ok (.iconst 2, 1) := dk_5 (dk_at dksX3_cards_6 14 rfl rfl)
theorem dX3_cards_155 : decode cX3_cards 155 = .ok (.iadd, 1) := dk_96 (dk_at dksX3_cards_6 15 rfl rfl)
theorem dX3_cards_156 : decode cX3_cards 156 = .ok (.laload, 1) := dk_47 (dk_at dksX3_cards_6 16 rfl rfl)
theorem dX3_cards_157 : decode cX3_cards 157 = .ok (.invokevirtual 191, 3) := dk_182 0 191 (dk_at dksX3_cards_6 17 rfl rfl)
theorem dX3_cards_160 : decode cX3_cards 160 = .ok (.ifCond .eq 7, 3) := dk_153 0 7 (dk_at dksX3_cards_6 20 rfl rfl)
theorem dX3_cards_163 : decode cX3_cards 163 = .ok (.iconst 1, 1) := dk_4 (dk_at dksX3_cards_6 23 rfl rfl)
theorem dX3_cards_164 : decode cX3_cards 164 = .ok (.goto 4, 3) := dk_167 0 4 (dk_at dksX3_cards_7 0 rfl rfl)
theorem dX3_cards_167 : decode cX3_cards 167 = .ok (.iconst 0, 1) := dk_3 (dk_at dksX3_cards_7 3 rfl rfl)
theorem dX3_cards_168 : decode cX3_cards 168 = .ok (.istore 5, 2) := dk_54 5 (dk_at dksX3_cards_7 4 rfl rfl)
theorem dX3_cards_170 : decode cX3_cards 170 = .ok (.iload 5, 2) := dk_21 5 (dk_at dksX3_cards_7 6 rfl rfl)
theorem dX3_cards_172 : decode cX3_cards 172 = .ok (.ifCond .eq 38, 3) := dk_153 0 38 (dk_at dksX3_cards_7 8 rfl rfl)
theorem dX3_cards_175 : decode cX3_cards 175 = .ok (.aload_n 0, 1) := dk_42 (dk_at dksX3_cards_7 11 rfl rfl)
theorem dX3_cards_176 : decode cX3_cards 176 = .ok (.aload_n 0, 1) := dk_42 (dk_at dksX3_cards_7 12 rfl rfl)
theorem dX3_cards_177 : decode cX3_cards 177 = .ok (.getfield 136, 3) := dk_180 0 136 (dk_at dksX3_cards_7 13 rfl rfl)
theorem dX3_cards_180 : decode cX3_cards 180 = .ok (.iload 6, 2) := dk_21 6 (dk_at dksX3_cards_7 16 rfl rfl)
theorem dX3_cards_182 : decode cX3_cards 182 = .ok (.laload, 1) := dk_47 (dk_at dksX3_cards_7 18 rfl rfl)
theorem dX3_cards_183 : decode cX3_cards 183 = .ok (.l2i, 1) := dk_136 (dk_at dksX3_cards_7 19 rfl rfl)
theorem dX3_cards_184 : decode cX3_cards 184 = .ok (.aload_n 0, 1) := dk_42 (dk_at dksX3_cards_7 20 rfl rfl)
theorem dX3_cards_185 : decode cX3_cards 185 = .ok (.getfield 136, 3) := dk_180 0 136 (dk_at dksX3_cards_7 21 rfl rfl)
theorem dX3_cards_188 : decode cX3_cards 188 = .ok (.iload 6, 2) := dk_21 6 (dk_at dksX3_cards_8 0 rfl rfl)
theorem dX3_cards_190 : decode cX3_cards 190 = .ok (.iconst 1, 1) := dk_4 (dk_at dksX3_cards_8 2 rfl rfl)
theorem dX3_cards_191 : decode cX3_cards 191 = .ok (.iadd, 1) := dk_96 (dk_at dksX3_cards_8 3 rfl rfl)
theorem dX3_cards_192 : decode cX3_cards 192 = .ok (.laload, 1) := dk_47 (dk_at dksX3_cards_8 4 rfl rfl)
theorem dX3_cards_193 : decode cX3_cards 193 = .ok (.l2i, 1) := dk_136 (dk_at dksX3_cards_8 5 rfl rfl)
theorem dX3_cards_194 : decode cX3_cards 194 = .ok (.aload_n 0, 1) := dk_42 (dk_at dksX3_cards_8 6 rfl rfl)
theorem dX3_cards_195 : decode cX3_cards 195 = .ok (.getfield 136, 3) := dk_180 0 136 (dk_at dksX3_cards_8 7 rfl rfl)
theorem dX3_cards_198 : decode cX3_cards 198 = .ok (.iload 6, 2) := dk_21 6 (dk_at dksX3_cards_8 10 rfl rfl)
theorem dX3_cards_200 : decode cX3_cards 200 = .ok (.iconst 2, 1) := dk_5 (dk_at dksX3_cards_8 12 rfl rfl)
theorem dX3_cards_201 : decode cX3_cards 201 = .ok (.iadd, 1) := dk_96 (dk_at dksX3_cards_8 13 rfl rfl)
theorem dX3_cards_202 : decode cX3_cards 202 = .ok (.laload, 1) := dk_47 (dk_at dksX3_cards_8 14 rfl rfl)
theorem dX3_cards_203 : decode cX3_cards 203 = .ok (.l2i, 1) := dk_136 (dk_at dksX3_cards_8 15 rfl rfl)
theorem dX3_cards_204 : decode cX3_cards 204 = .ok (.invokevirtual 194, 3) := dk_182 0 194 (dk_at dksX3_cards_8 16 rfl rfl)
theorem dX3_cards_207 : decode cX3_cards 207 = .ok (.iinc 4 1, 3) := dk_132 4 1 (dk_at dksX3_cards_8 19 rfl rfl)
theorem dX3_cards_210 : decode cX3_cards 210 = .ok (.goto (-141), 3) := dk_167 255 115 (dk_at dksX3_cards_9 0 rfl rfl)
theorem dX3_cards_213 : decode cX3_cards 213 = .ok (.iload 4, 2) := dk_21 4 (dk_at dksX3_cards_9 3 rfl rfl)
theorem dX3_cards_215 : decode cX3_cards 215 = .ok (.ireturn, 1) := dk_172 (dk_at dksX3_cards_9 5 rfl rfl)
abbrev cX3_isShelf : ByteArray := prog_34_method_93_code
def yX3_isShelf : MethodName := ⟨RX3, "isShelf", "(I)Z"⟩
def dkwX3_isShelf_0 : List UInt8 := [26, 133, 9, 20, 0, 203, 184, 0, 162, 172]
abbrev dktX3_isShelf_0 : List UInt8 := dkwX3_isShelf_0 ++ []
theorem dksX3_isShelf_0 : cX3_isShelf.data.toList.drop 0 = dktX3_isShelf_0 := by decide +kernel
theorem dX3_isShelf_0 : decode cX3_isShelf 0 = .ok (.iload_n 0, 1) := dk_26 (dk_at dksX3_isShelf_0 0 rfl rfl)
theorem dX3_isShelf_1 : decode cX3_isShelf 1 = .ok (.i2l, 1) := dk_133 (dk_at dksX3_isShelf_0 1 rfl rfl)
theorem dX3_isShelf_2 : decode cX3_isShelf 2 = .ok (.lconst 0, 1) := dk_9 (dk_at dksX3_isShelf_0 2 rfl rfl)
theorem dX3_isShelf_3 : decode cX3_isShelf 3 = .ok (.ldc2_w 203, 3) := dk_20 0 203 (dk_at dksX3_isShelf_0 3 rfl rfl)
theorem dX3_isShelf_6 : decode cX3_isShelf 6 = .ok (.invokestatic 162, 3) := dk_184 0 162 (dk_at dksX3_isShelf_0 6 rfl rfl)
theorem dX3_isShelf_9 : decode cX3_isShelf 9 = .ok (.ireturn, 1) := dk_172 (dk_at dksX3_isShelf_0 9 rfl rfl)
abbrev cX3_set : ByteArray := prog_34_method_18_code
def yX3_set : MethodName := ⟨RX3, "set", "(II)I"⟩
def dkwX3_set_4 : List UInt8 := [10, 20, 0, 172, 184, 0, 162, 153, 0, 13, 42, 180, 0, 147, 62, 42, 28, 181, 0, 147, 29, 172, 2, 172]
abbrev dktX3_set_4 : List UInt8 := dkwX3_set_4 ++ []
def dkwX3_set_3 : List UInt8 := [28, 133, 9, 10, 184, 0, 162, 153, 0, 13, 42, 180, 0, 208, 62, 42, 28, 181, 0, 208, 29, 172, 28, 133]
abbrev dktX3_set_3 : List UInt8 := dkwX3_set_3 ++ dktX3_set_4
def dkwX3_set_2 : List UInt8 := [28, 133, 9, 20, 0, 203, 184, 0, 162, 153, 0, 13, 42, 180, 0, 205, 62, 42, 28, 181, 0, 205, 29, 172]
abbrev dktX3_set_2 : List UInt8 := dkwX3_set_2 ++ dktX3_set_3
def dkwX3_set_1 : List UInt8 := [170, 0, 0, 0, 95, 0, 0, 0, 0, 0, 0, 0, 2, 0, 0, 0, 25, 0, 0, 0, 49, 0, 0, 0, 71]
abbrev dktX3_set_1 : List UInt8 := dkwX3_set_1 ++ dktX3_set_2
def dkwX3_set_0 : List UInt8 := [2, 62, 27]
abbrev dktX3_set_0 : List UInt8 := dkwX3_set_0 ++ dktX3_set_1
theorem dksX3_set_0 : cX3_set.data.toList.drop 0 = dktX3_set_0 := by decide +kernel
theorem dksX3_set_1 : cX3_set.data.toList.drop 3 = dktX3_set_1 := dk_seg dksX3_set_0 3 rfl rfl
theorem dksX3_set_2 : cX3_set.data.toList.drop 28 = dktX3_set_2 := dk_seg dksX3_set_1 25 rfl rfl
theorem dksX3_set_3 : cX3_set.data.toList.drop 52 = dktX3_set_3 := dk_seg dksX3_set_2 24 rfl rfl
theorem dksX3_set_4 : cX3_set.data.toList.drop 76 = dktX3_set_4 := dk_seg dksX3_set_3 24 rfl rfl
theorem dX3_set_0 : decode cX3_set 0 = .ok (.iconst (-1), 1) := dk_2 (dk_at dksX3_set_0 0 rfl rfl)
theorem dX3_set_1 : decode cX3_set 1 = .ok (.istore_n 3, 1) := dk_62 (dk_at dksX3_set_0 1 rfl rfl)
theorem dX3_set_2 : decode cX3_set 2 = .ok (.iload_n 1, 1) := dk_27 (dk_at dksX3_set_0 2 rfl rfl)
theorem dX3_set_3 : decode cX3_set 3 = .ok (.tableswitch 95 0 2 #[25, 49, 71], 25) := by decide +kernel
theorem dX3_set_28 : decode cX3_set 28 = .ok (.iload_n 2, 1) := dk_28 (dk_at dksX3_set_2 0 rfl rfl)
theorem dX3_set_29 : decode cX3_set 29 = .ok (.i2l, 1) := dk_133 (dk_at dksX3_set_2 1 rfl rfl)
theorem dX3_set_30 : decode cX3_set 30 = .ok (.lconst 0, 1) := dk_9 (dk_at dksX3_set_2 2 rfl rfl)
theorem dX3_set_31 : decode cX3_set 31 = .ok (.ldc2_w 203, 3) := dk_20 0 203 (dk_at dksX3_set_2 3 rfl rfl)
theorem dX3_set_34 : decode cX3_set 34 = .ok (.invokestatic 162, 3) := dk_184 0 162 (dk_at dksX3_set_2 6 rfl rfl)
theorem dX3_set_37 : decode cX3_set 37 = .ok (.ifCond .eq 13, 3) := dk_153 0 13 (dk_at dksX3_set_2 9 rfl rfl)
theorem dX3_set_40 : decode cX3_set 40 = .ok (.aload_n 0, 1) := dk_42 (dk_at dksX3_set_2 12 rfl rfl)
theorem dX3_set_41 : decode cX3_set 41 = .ok (.getfield 205, 3) := dk_180 0 205 (dk_at dksX3_set_2 13 rfl rfl)
theorem dX3_set_44 : decode cX3_set 44 = .ok (.istore_n 3, 1) := dk_62 (dk_at dksX3_set_2 16 rfl rfl)
theorem dX3_set_45 : decode cX3_set 45 = .ok (.aload_n 0, 1) := dk_42 (dk_at dksX3_set_2 17 rfl rfl)
theorem dX3_set_46 : decode cX3_set 46 = .ok (.iload_n 2, 1) := dk_28 (dk_at dksX3_set_2 18 rfl rfl)
theorem dX3_set_47 : decode cX3_set 47 = .ok (.putfield 205, 3) := dk_181 0 205 (dk_at dksX3_set_2 19 rfl rfl)
theorem dX3_set_50 : decode cX3_set 50 = .ok (.iload_n 3, 1) := dk_29 (dk_at dksX3_set_2 22 rfl rfl)
theorem dX3_set_51 : decode cX3_set 51 = .ok (.ireturn, 1) := dk_172 (dk_at dksX3_set_2 23 rfl rfl)
theorem dX3_set_52 : decode cX3_set 52 = .ok (.iload_n 2, 1) := dk_28 (dk_at dksX3_set_3 0 rfl rfl)
theorem dX3_set_53 : decode cX3_set 53 = .ok (.i2l, 1) := dk_133 (dk_at dksX3_set_3 1 rfl rfl)
theorem dX3_set_54 : decode cX3_set 54 = .ok (.lconst 0, 1) := dk_9 (dk_at dksX3_set_3 2 rfl rfl)
theorem dX3_set_55 : decode cX3_set 55 = .ok (.lconst 1, 1) := dk_10 (dk_at dksX3_set_3 3 rfl rfl)
theorem dX3_set_56 : decode cX3_set 56 = .ok (.invokestatic 162, 3) := dk_184 0 162 (dk_at dksX3_set_3 4 rfl rfl)
theorem dX3_set_59 : decode cX3_set 59 = .ok (.ifCond .eq 13, 3) := dk_153 0 13 (dk_at dksX3_set_3 7 rfl rfl)
theorem dX3_set_62 : decode cX3_set 62 = .ok (.aload_n 0, 1) := dk_42 (dk_at dksX3_set_3 10 rfl rfl)
theorem dX3_set_63 : decode cX3_set 63 = .ok (.getfield 208, 3) := dk_180 0 208 (dk_at dksX3_set_3 11 rfl rfl)
theorem dX3_set_66 : decode cX3_set 66 = .ok (.istore_n 3, 1) := dk_62 (dk_at dksX3_set_3 14 rfl rfl)
theorem dX3_set_67 : decode cX3_set 67 = .ok (.aload_n 0, 1) := dk_42 (dk_at dksX3_set_3 15 rfl rfl)
theorem dX3_set_68 : decode cX3_set 68 = .ok (.iload_n 2, 1) := dk_28 (dk_at dksX3_set_3 16 rfl rfl)
theorem dX3_set_69 : decode cX3_set 69 = .ok (.putfield 208, 3) := dk_181 0 208 (dk_at dksX3_set_3 17 rfl rfl)
theorem dX3_set_72 : decode cX3_set 72 = .ok (.iload_n 3, 1) := dk_29 (dk_at dksX3_set_3 20 rfl rfl)
theorem dX3_set_73 : decode cX3_set 73 = .ok (.ireturn, 1) := dk_172 (dk_at dksX3_set_3 21 rfl rfl)
theorem dX3_set_74 : decode cX3_set 74 = .ok (.iload_n 2, 1) := dk_28 (dk_at dksX3_set_3 22 rfl rfl)
theorem dX3_set_75 : decode cX3_set 75 = .ok (.i2l, 1) := dk_133 (dk_at dksX3_set_3 23 rfl rfl)
theorem dX3_set_76 : decode cX3_set 76 = .ok (.lconst 1, 1) := dk_10 (dk_at dksX3_set_4 0 rfl rfl)
theorem dX3_set_77 : decode cX3_set 77 = .ok (.ldc2_w 172, 3) := dk_20 0 172 (dk_at dksX3_set_4 1 rfl rfl)
theorem dX3_set_80 : decode cX3_set 80 = .ok (.invokestatic 162, 3) := dk_184 0 162 (dk_at dksX3_set_4 4 rfl rfl)
theorem dX3_set_83 : decode cX3_set 83 = .ok (.ifCond .eq 13, 3) := dk_153 0 13 (dk_at dksX3_set_4 7 rfl rfl)
theorem dX3_set_86 : decode cX3_set 86 = .ok (.aload_n 0, 1) := dk_42 (dk_at dksX3_set_4 10 rfl rfl)
theorem dX3_set_87 : decode cX3_set 87 = .ok (.getfield 147, 3) := dk_180 0 147 (dk_at dksX3_set_4 11 rfl rfl)
theorem dX3_set_90 : decode cX3_set 90 = .ok (.istore_n 3, 1) := dk_62 (dk_at dksX3_set_4 14 rfl rfl)
theorem dX3_set_91 : decode cX3_set 91 = .ok (.aload_n 0, 1) := dk_42 (dk_at dksX3_set_4 15 rfl rfl)
theorem dX3_set_92 : decode cX3_set 92 = .ok (.iload_n 2, 1) := dk_28 (dk_at dksX3_set_4 16 rfl rfl)
theorem dX3_set_93 : decode cX3_set 93 = .ok (.putfield 147, 3) := dk_181 0 147 (dk_at dksX3_set_4 17 rfl rfl)
theorem dX3_set_96 : decode cX3_set 96 = .ok (.iload_n 3, 1) := dk_29 (dk_at dksX3_set_4 20 rfl rfl)
theorem dX3_set_97 : decode cX3_set 97 = .ok (.ireturn, 1) := dk_172 (dk_at dksX3_set_4 21 rfl rfl)
theorem dX3_set_98 : decode cX3_set 98 = .ok (.iconst (-1), 1) := dk_2 (dk_at dksX3_set_4 22 rfl rfl)
theorem dX3_set_99 : decode cX3_set 99 = .ok (.ireturn, 1) := dk_172 (dk_at dksX3_set_4 23 rfl rfl)
abbrev cX3_mend : ByteArray := prog_34_method_19_code
def yX3_mend : MethodName := ⟨RX3, "mend", "(III)I"⟩
def dkwX3_mend_8 : List UInt8 := [27, 96, 29, 182, 0, 214, 167, 0, 5, 18, 218, 172, 18, 218, 172]
abbrev dktX3_mend_8 : List UInt8 := dkwX3_mend_8 ++ []
def dkwX3_mend_7 : List UInt8 := [167, 0, 5, 18, 218, 172, 42, 27, 182, 0, 219, 153, 0, 22, 29, 184, 0, 184, 153, 0, 15, 42, 16, 36]
abbrev dktX3_mend_7 : List UInt8 := dkwX3_mend_7 ++ dktX3_mend_8
def dkwX3_mend_6 : List UInt8 := [182, 0, 219, 153, 0, 22, 29, 184, 0, 180, 153, 0, 15, 42, 16, 30, 27, 96, 29, 182, 0, 214]
abbrev dktX3_mend_6 : List UInt8 := dkwX3_mend_6 ++ dktX3_mend_7
def dkwX3_mend_5 : List UInt8 := [184, 0, 162, 153, 0, 15, 42, 16, 20, 27, 96, 29, 182, 0, 214, 167, 0, 5, 18, 218, 172, 42, 27]
abbrev dktX3_mend_5 : List UInt8 := dkwX3_mend_5 ++ dktX3_mend_6
def dkwX3_mend_4 : List UInt8 := [182, 0, 214, 167, 0, 5, 18, 218, 172, 42, 27, 182, 0, 211, 153, 0, 27, 29, 133, 9, 20, 0, 174]
abbrev dktX3_mend_4 : List UInt8 := dkwX3_mend_4 ++ dktX3_mend_5
def dkwX3_mend_3 : List UInt8 := [18, 218, 172, 42, 27, 182, 0, 211, 153, 0, 22, 29, 184, 0, 184, 153, 0, 15, 42, 16, 10, 27, 96, 29]
abbrev dktX3_mend_3 : List UInt8 := dkwX3_mend_3 ++ dktX3_mend_4
def dkwX3_mend_2 : List UInt8 := [42, 27, 182, 0, 211, 153, 0, 19, 29, 184, 0, 184, 153, 0, 12, 42, 27, 29, 182, 0, 214, 167, 0, 5]
abbrev dktX3_mend_2 : List UInt8 := dkwX3_mend_2 ++ dktX3_mend_3
def dkwX3_mend_1 : List UInt8 := [170, 0, 0, 0, 0, 0, 187, 0, 0, 0, 0, 0, 0, 0, 4, 0, 0, 0, 35, 0, 0, 0, 62, 0, 0, 0, 92, 0, 0, 0, 127, 0, 0, 0, 157]
abbrev dktX3_mend_1 : List UInt8 := dkwX3_mend_1 ++ dktX3_mend_2
def dkwX3_mend_0 : List UInt8 := [28]
abbrev dktX3_mend_0 : List UInt8 := dkwX3_mend_0 ++ dktX3_mend_1
theorem dksX3_mend_0 : cX3_mend.data.toList.drop 0 = dktX3_mend_0 := by decide +kernel
theorem dksX3_mend_1 : cX3_mend.data.toList.drop 1 = dktX3_mend_1 := dk_seg dksX3_mend_0 1 rfl rfl
theorem dksX3_mend_2 : cX3_mend.data.toList.drop 36 = dktX3_mend_2 := dk_seg dksX3_mend_1 35 rfl rfl
theorem dksX3_mend_3 : cX3_mend.data.toList.drop 60 = dktX3_mend_3 := dk_seg dksX3_mend_2 24 rfl rfl
theorem dksX3_mend_4 : cX3_mend.data.toList.drop 84 = dktX3_mend_4 := dk_seg dksX3_mend_3 24 rfl rfl
theorem dksX3_mend_5 : cX3_mend.data.toList.drop 107 = dktX3_mend_5 := dk_seg dksX3_mend_4 23 rfl rfl
theorem dksX3_mend_6 : cX3_mend.data.toList.drop 130 = dktX3_mend_6 := dk_seg dksX3_mend_5 23 rfl rfl
theorem dksX3_mend_7 : cX3_mend.data.toList.drop 152 = dktX3_mend_7 := dk_seg dksX3_mend_6 22 rfl rfl
theorem dksX3_mend_8 : cX3_mend.data.toList.drop 176 = dktX3_mend_8 := dk_seg dksX3_mend_7 24 rfl rfl
theorem dX3_mend_0 : decode cX3_mend 0 = .ok (.iload_n 2, 1) := dk_28 (dk_at dksX3_mend_0 0 rfl rfl)
theorem dX3_mend_1 : decode cX3_mend 1 = .ok (.tableswitch 187 0 4 #[35, 62, 92, 127, 157], 35) := by decide +kernel
theorem dX3_mend_36 : decode cX3_mend 36 = .ok (.aload_n 0, 1) := dk_42 (dk_at dksX3_mend_2 0 rfl rfl)
theorem dX3_mend_37 : decode cX3_mend 37 = .ok (.iload_n 1, 1) := dk_27 (dk_at dksX3_mend_2 1 rfl rfl)
theorem dX3_mend_38 : decode cX3_mend 38 = .ok (.invokevirtual 211, 3) := dk_182 0 211 (dk_at dksX3_mend_2 2 rfl rfl)
theorem dX3_mend_41 : decode cX3_mend 41 = .ok (.ifCond .eq 19, 3) := dk_153 0 19 (dk_at dksX3_mend_2 5 rfl rfl)
theorem dX3_mend_44 : decode cX3_mend 44 = .ok (.iload_n 3, 1) := dk_29 (dk_at dksX3_mend_2 8 rfl rfl)
theorem dX3_mend_45 : decode cX3_mend 45 = .ok (.invokestatic 184, 3) := dk_184 0 184 (dk_at dksX3_mend_2 9 rfl rfl)
theorem dX3_mend_48 : decode cX3_mend 48 = .ok (.ifCond .eq 12, 3) := dk_153 0 12 (dk_at dksX3_mend_2 12 rfl rfl)
theorem dX3_mend_51 : decode cX3_mend 51 = .ok (.aload_n 0, 1) := dk_42 (dk_at dksX3_mend_2 15 rfl rfl)
theorem dX3_mend_52 : decode cX3_mend 52 = .ok (.iload_n 1, 1) := dk_27 (dk_at dksX3_mend_2 16 rfl rfl)
theorem dX3_mend_53 : decode cX3_mend 53 = .ok (.iload_n 3, 1) := dk_29 (dk_at dksX3_mend_2 17 rfl rfl)
theorem dX3_mend_54 : decode cX3_mend 54 = .ok (.invokevirtual 214, 3) := dk_182 0 214 (dk_at dksX3_mend_2 18 rfl rfl)
theorem dX3_mend_57 : decode cX3_mend 57 = .ok (.goto 5, 3) := dk_167 0 5 (dk_at dksX3_mend_2 21 rfl rfl)
theorem dX3_mend_60 : decode cX3_mend 60 = .ok (.ldc 218, 2) := dk_18 218 (dk_at dksX3_mend_3 0 rfl rfl)
theorem dX3_mend_62 : decode cX3_mend 62 = .ok (.ireturn, 1) := dk_172 (dk_at dksX3_mend_3 2 rfl rfl)
theorem dX3_mend_63 : decode cX3_mend 63 = .ok (.aload_n 0, 1) := dk_42 (dk_at dksX3_mend_3 3 rfl rfl)
theorem dX3_mend_64 : decode cX3_mend 64 = .ok (.iload_n 1, 1) := dk_27 (dk_at dksX3_mend_3 4 rfl rfl)
theorem dX3_mend_65 : decode cX3_mend 65 = .ok (.invokevirtual 211, 3) := dk_182 0 211 (dk_at dksX3_mend_3 5 rfl rfl)
theorem dX3_mend_68 : decode cX3_mend 68 = .ok (.ifCond .eq 22, 3) := dk_153 0 22 (dk_at dksX3_mend_3 8 rfl rfl)
theorem dX3_mend_71 : decode cX3_mend 71 = .ok (.iload_n 3, 1) := dk_29 (dk_at dksX3_mend_3 11 rfl rfl)
theorem dX3_mend_72 : decode cX3_mend 72 = .ok (.invokestatic 184, 3) := dk_184 0 184 (dk_at dksX3_mend_3 12 rfl rfl)
theorem dX3_mend_75 : decode cX3_mend 75 = .ok (.ifCond .eq 15, 3) := dk_153 0 15 (dk_at dksX3_mend_3 15 rfl rfl)
theorem dX3_mend_78 : decode cX3_mend 78 = .ok (.aload_n 0, 1) := dk_42 (dk_at dksX3_mend_3 18 rfl rfl)
theorem dX3_mend_79 : decode cX3_mend 79 = .ok (.bipush 10, 2) := dk_16 10 (dk_at dksX3_mend_3 19 rfl rfl)
theorem dX3_mend_81 : decode cX3_mend 81 = .ok (.iload_n 1, 1) := dk_27 (dk_at dksX3_mend_3 21 rfl rfl)
theorem dX3_mend_82 : decode cX3_mend 82 = .ok (.iadd, 1) := dk_96 (dk_at dksX3_mend_3 22 rfl rfl)
theorem dX3_mend_83 : decode cX3_mend 83 = .ok (.iload_n 3, 1) := dk_29 (dk_at dksX3_mend_3 23 rfl rfl)
theorem dX3_mend_84 : decode cX3_mend 84 = .ok (.invokevirtual 214, 3) := dk_182 0 214 (dk_at dksX3_mend_4 0 rfl rfl)
theorem dX3_mend_87 : decode cX3_mend 87 = .ok (.goto 5, 3) := dk_167 0 5 (dk_at dksX3_mend_4 3 rfl rfl)
theorem dX3_mend_90 : decode cX3_mend 90 = .ok (.ldc 218, 2) := dk_18 218 (dk_at dksX3_mend_4 6 rfl rfl)
theorem dX3_mend_92 : decode cX3_mend 92 = .ok (.ireturn, 1) := dk_172 (dk_at dksX3_mend_4 8 rfl rfl)
theorem dX3_mend_93 : decode cX3_mend 93 = .ok (.aload_n 0, 1) := dk_42 (dk_at dksX3_mend_4 9 rfl rfl)
theorem dX3_mend_94 : decode cX3_mend 94 = .ok (.iload_n 1, 1) := dk_27 (dk_at dksX3_mend_4 10 rfl rfl)
theorem dX3_mend_95 : decode cX3_mend 95 = .ok (.invokevirtual 211, 3) := dk_182 0 211 (dk_at dksX3_mend_4 11 rfl rfl)
theorem dX3_mend_98 : decode cX3_mend 98 = .ok (.ifCond .eq 27, 3) := dk_153 0 27 (dk_at dksX3_mend_4 14 rfl rfl)
theorem dX3_mend_101 : decode cX3_mend 101 = .ok (.iload_n 3, 1) := dk_29 (dk_at dksX3_mend_4 17 rfl rfl)
theorem dX3_mend_102 : decode cX3_mend 102 = .ok (.i2l, 1) := dk_133 (dk_at dksX3_mend_4 18 rfl rfl)
theorem dX3_mend_103 : decode cX3_mend 103 = .ok (.lconst 0, 1) := dk_9 (dk_at dksX3_mend_4 19 rfl rfl)
theorem dX3_mend_104 : decode cX3_mend 104 = .ok (.ldc2_w 174, 3) := dk_20 0 174 (dk_at dksX3_mend_4 20 rfl rfl)
theorem dX3_mend_107 : decode cX3_mend 107 = .ok (.invokestatic 162, 3) := dk_184 0 162 (dk_at dksX3_mend_5 0 rfl rfl)
theorem dX3_mend_110 : decode cX3_mend 110 = .ok (.ifCond .eq 15, 3) := dk_153 0 15 (dk_at dksX3_mend_5 3 rfl rfl)
theorem dX3_mend_113 : decode cX3_mend 113 = .ok (.aload_n 0, 1) := dk_42 (dk_at dksX3_mend_5 6 rfl rfl)
theorem dX3_mend_114 : decode cX3_mend 114 = .ok (.bipush 20, 2) := dk_16 20 (dk_at dksX3_mend_5 7 rfl rfl)
theorem dX3_mend_116 : decode cX3_mend 116 = .ok (.iload_n 1, 1) := dk_27 (dk_at dksX3_mend_5 9 rfl rfl)
theorem dX3_mend_117 : decode cX3_mend 117 = .ok (.iadd, 1) := dk_96 (dk_at dksX3_mend_5 10 rfl rfl)
theorem dX3_mend_118 : decode cX3_mend 118 = .ok (.iload_n 3, 1) := dk_29 (dk_at dksX3_mend_5 11 rfl rfl)
theorem dX3_mend_119 : decode cX3_mend 119 = .ok (.invokevirtual 214, 3) := dk_182 0 214 (dk_at dksX3_mend_5 12 rfl rfl)
theorem dX3_mend_122 : decode cX3_mend 122 = .ok (.goto 5, 3) := dk_167 0 5 (dk_at dksX3_mend_5 15 rfl rfl)
theorem dX3_mend_125 : decode cX3_mend 125 = .ok (.ldc 218, 2) := dk_18 218 (dk_at dksX3_mend_5 18 rfl rfl)
theorem dX3_mend_127 : decode cX3_mend 127 = .ok (.ireturn, 1) := dk_172 (dk_at dksX3_mend_5 20 rfl rfl)
theorem dX3_mend_128 : decode cX3_mend 128 = .ok (.aload_n 0, 1) := dk_42 (dk_at dksX3_mend_5 21 rfl rfl)
theorem dX3_mend_129 : decode cX3_mend 129 = .ok (.iload_n 1, 1) := dk_27 (dk_at dksX3_mend_5 22 rfl rfl)
theorem dX3_mend_130 : decode cX3_mend 130 = .ok (.invokevirtual 219, 3) := dk_182 0 219 (dk_at dksX3_mend_6 0 rfl rfl)
theorem dX3_mend_133 : decode cX3_mend 133 = .ok (.ifCond .eq 22, 3) := dk_153 0 22 (dk_at dksX3_mend_6 3 rfl rfl)
theorem dX3_mend_136 : decode cX3_mend 136 = .ok (.iload_n 3, 1) := dk_29 (dk_at dksX3_mend_6 6 rfl rfl)
theorem dX3_mend_137 : decode cX3_mend 137 = .ok (.invokestatic 180, 3) := dk_184 0 180 (dk_at dksX3_mend_6 7 rfl rfl)
theorem dX3_mend_140 : decode cX3_mend 140 = .ok (.ifCond .eq 15, 3) := dk_153 0 15 (dk_at dksX3_mend_6 10 rfl rfl)
theorem dX3_mend_143 : decode cX3_mend 143 = .ok (.aload_n 0, 1) := dk_42 (dk_at dksX3_mend_6 13 rfl rfl)
theorem dX3_mend_144 : decode cX3_mend 144 = .ok (.bipush 30, 2) := dk_16 30 (dk_at dksX3_mend_6 14 rfl rfl)
theorem dX3_mend_146 : decode cX3_mend 146 = .ok (.iload_n 1, 1) := dk_27 (dk_at dksX3_mend_6 16 rfl rfl)
theorem dX3_mend_147 : decode cX3_mend 147 = .ok (.iadd, 1) := dk_96 (dk_at dksX3_mend_6 17 rfl rfl)
theorem dX3_mend_148 : decode cX3_mend 148 = .ok (.iload_n 3, 1) := dk_29 (dk_at dksX3_mend_6 18 rfl rfl)
theorem dX3_mend_149 : decode cX3_mend 149 = .ok (.invokevirtual 214, 3) := dk_182 0 214 (dk_at dksX3_mend_6 19 rfl rfl)
theorem dX3_mend_152 : decode cX3_mend 152 = .ok (.goto 5, 3) := dk_167 0 5 (dk_at dksX3_mend_7 0 rfl rfl)
theorem dX3_mend_155 : decode cX3_mend 155 = .ok (.ldc 218, 2) := dk_18 218 (dk_at dksX3_mend_7 3 rfl rfl)
theorem dX3_mend_157 : decode cX3_mend 157 = .ok (.ireturn, 1) := dk_172 (dk_at dksX3_mend_7 5 rfl rfl)
theorem dX3_mend_158 : decode cX3_mend 158 = .ok (.aload_n 0, 1) := dk_42 (dk_at dksX3_mend_7 6 rfl rfl)
theorem dX3_mend_159 : decode cX3_mend 159 = .ok (.iload_n 1, 1) := dk_27 (dk_at dksX3_mend_7 7 rfl rfl)
theorem dX3_mend_160 : decode cX3_mend 160 = .ok (.invokevirtual 219, 3) := dk_182 0 219 (dk_at dksX3_mend_7 8 rfl rfl)
theorem dX3_mend_163 : decode cX3_mend 163 = .ok (.ifCond .eq 22, 3) := dk_153 0 22 (dk_at dksX3_mend_7 11 rfl rfl)
theorem dX3_mend_166 : decode cX3_mend 166 = .ok (.iload_n 3, 1) := dk_29 (dk_at dksX3_mend_7 14 rfl rfl)
theorem dX3_mend_167 : decode cX3_mend 167 = .ok (.invokestatic 184, 3) := dk_184 0 184 (dk_at dksX3_mend_7 15 rfl rfl)
theorem dX3_mend_170 : decode cX3_mend 170 = .ok (.ifCond .eq 15, 3) := dk_153 0 15 (dk_at dksX3_mend_7 18 rfl rfl)
theorem dX3_mend_173 : decode cX3_mend 173 = .ok (.aload_n 0, 1) := dk_42 (dk_at dksX3_mend_7 21 rfl rfl)
theorem dX3_mend_174 : decode cX3_mend 174 = .ok (.bipush 36, 2) := dk_16 36 (dk_at dksX3_mend_7 22 rfl rfl)
theorem dX3_mend_176 : decode cX3_mend 176 = .ok (.iload_n 1, 1) := dk_27 (dk_at dksX3_mend_8 0 rfl rfl)
theorem dX3_mend_177 : decode cX3_mend 177 = .ok (.iadd, 1) := dk_96 (dk_at dksX3_mend_8 1 rfl rfl)
theorem dX3_mend_178 : decode cX3_mend 178 = .ok (.iload_n 3, 1) := dk_29 (dk_at dksX3_mend_8 2 rfl rfl)
theorem dX3_mend_179 : decode cX3_mend 179 = .ok (.invokevirtual 214, 3) := dk_182 0 214 (dk_at dksX3_mend_8 3 rfl rfl)
theorem dX3_mend_182 : decode cX3_mend 182 = .ok (.goto 5, 3) := dk_167 0 5 (dk_at dksX3_mend_8 6 rfl rfl)
theorem dX3_mend_185 : decode cX3_mend 185 = .ok (.ldc 218, 2) := dk_18 218 (dk_at dksX3_mend_8 9 rfl rfl)
theorem dX3_mend_187 : decode cX3_mend 187 = .ok (.ireturn, 1) := dk_172 (dk_at dksX3_mend_8 11 rfl rfl)
theorem dX3_mend_188 : decode cX3_mend 188 = .ok (.ldc 218, 2) := dk_18 218 (dk_at dksX3_mend_8 12 rfl rfl)
theorem dX3_mend_190 : decode cX3_mend 190 = .ok (.ireturn, 1) := dk_172 (dk_at dksX3_mend_8 14 rfl rfl)
abbrev cX3_isPerson : ByteArray := prog_34_method_7_code
def yX3_isPerson : MethodName := ⟨RX3, "isPerson", "(I)Z"⟩
def dkwX3_isPerson_0 : List UInt8 := [27, 133, 9, 42, 180, 0, 159, 4, 100, 133, 184, 0, 162, 172]
abbrev dktX3_isPerson_0 : List UInt8 := dkwX3_isPerson_0 ++ []
theorem dksX3_isPerson_0 : cX3_isPerson.data.toList.drop 0 = dktX3_isPerson_0 := by decide +kernel
theorem dX3_isPerson_0 : decode cX3_isPerson 0 = .ok (.iload_n 1, 1) := dk_27 (dk_at dksX3_isPerson_0 0 rfl rfl)
theorem dX3_isPerson_1 : decode cX3_isPerson 1 = .ok (.i2l, 1) := dk_133 (dk_at dksX3_isPerson_0 1 rfl rfl)
theorem dX3_isPerson_2 : decode cX3_isPerson 2 = .ok (.lconst 0, 1) := dk_9 (dk_at dksX3_isPerson_0 2 rfl rfl)
theorem dX3_isPerson_3 : decode cX3_isPerson 3 = .ok (.aload_n 0, 1) := dk_42 (dk_at dksX3_isPerson_0 3 rfl rfl)
theorem dX3_isPerson_4 : decode cX3_isPerson 4 = .ok (.getfield 159, 3) := dk_180 0 159 (dk_at dksX3_isPerson_0 4 rfl rfl)
theorem dX3_isPerson_7 : decode cX3_isPerson 7 = .ok (.iconst 1, 1) := dk_4 (dk_at dksX3_isPerson_0 7 rfl rfl)
theorem dX3_isPerson_8 : decode cX3_isPerson 8 = .ok (.isub, 1) := dk_100 (dk_at dksX3_isPerson_0 8 rfl rfl)
theorem dX3_isPerson_9 : decode cX3_isPerson 9 = .ok (.i2l, 1) := dk_133 (dk_at dksX3_isPerson_0 9 rfl rfl)
theorem dX3_isPerson_10 : decode cX3_isPerson 10 = .ok (.invokestatic 162, 3) := dk_184 0 162 (dk_at dksX3_isPerson_0 10 rfl rfl)
theorem dX3_isPerson_13 : decode cX3_isPerson 13 = .ok (.ireturn, 1) := dk_172 (dk_at dksX3_isPerson_0 13 rfl rfl)
abbrev cX3_becomes : ByteArray := prog_34_method_4_code
def yX3_becomes : MethodName := ⟨RX3, "becomes", "(II)I"⟩
def dkwX3_becomes_6 : List UInt8 := [181, 0, 156, 42, 180, 0, 9, 27, 28, 79, 29, 172]
abbrev dktX3_becomes_6 : List UInt8 := dkwX3_becomes_6 ++ []
def dkwX3_becomes_5 : List UInt8 := [180, 0, 19, 42, 180, 0, 153, 28, 79, 42, 89, 180, 0, 153, 4, 96, 181, 0, 153, 42, 42, 180, 0, 153]
abbrev dktX3_becomes_5 : List UInt8 := dkwX3_becomes_5 ++ dktX3_becomes_6
def dkwX3_becomes_4 : List UInt8 := [181, 0, 153, 42, 180, 0, 13, 42, 180, 0, 153, 27, 79, 42, 180, 0, 16, 42, 180, 0, 153, 29, 79, 42]
abbrev dktX3_becomes_4 : List UInt8 := dkwX3_becomes_4 ++ dktX3_becomes_5
def dkwX3_becomes_3 : List UInt8 := [100, 42, 180, 0, 19, 21, 4, 46, 79, 132, 4, 1, 167, 255, 198, 42, 89, 180, 0, 153, 4, 100]
abbrev dktX3_becomes_3 : List UInt8 := dkwX3_becomes_3 ++ dktX3_becomes_4
def dkwX3_becomes_2 : List UInt8 := [79, 42, 180, 0, 16, 21, 4, 4, 100, 42, 180, 0, 16, 21, 4, 46, 79, 42, 180, 0, 19, 21, 4, 4]
abbrev dktX3_becomes_2 : List UInt8 := dkwX3_becomes_2 ++ dktX3_becomes_3
def dkwX3_becomes_1 : List UInt8 := [54, 4, 21, 4, 16, 40, 162, 0, 57, 42, 180, 0, 13, 21, 4, 4, 100, 42, 180, 0, 13, 21, 4, 46]
abbrev dktX3_becomes_1 : List UInt8 := dkwX3_becomes_1 ++ dktX3_becomes_2
def dkwX3_becomes_0 : List UInt8 := [42, 180, 0, 9, 27, 46, 62, 29, 28, 160, 0, 5, 29, 172, 42, 180, 0, 153, 16, 40, 160, 0, 77, 4]
abbrev dktX3_becomes_0 : List UInt8 := dkwX3_becomes_0 ++ dktX3_becomes_1
theorem dksX3_becomes_0 : cX3_becomes.data.toList.drop 0 = dktX3_becomes_0 := by decide +kernel
theorem dksX3_becomes_1 : cX3_becomes.data.toList.drop 24 = dktX3_becomes_1 := dk_seg dksX3_becomes_0 24 rfl rfl
theorem dksX3_becomes_2 : cX3_becomes.data.toList.drop 48 = dktX3_becomes_2 := dk_seg dksX3_becomes_1 24 rfl rfl
theorem dksX3_becomes_3 : cX3_becomes.data.toList.drop 72 = dktX3_becomes_3 := dk_seg dksX3_becomes_2 24 rfl rfl
theorem dksX3_becomes_4 : cX3_becomes.data.toList.drop 94 = dktX3_becomes_4 := dk_seg dksX3_becomes_3 22 rfl rfl
theorem dksX3_becomes_5 : cX3_becomes.data.toList.drop 118 = dktX3_becomes_5 := dk_seg dksX3_becomes_4 24 rfl rfl
theorem dksX3_becomes_6 : cX3_becomes.data.toList.drop 142 = dktX3_becomes_6 := dk_seg dksX3_becomes_5 24 rfl rfl
theorem dX3_becomes_0 : decode cX3_becomes 0 = .ok (.aload_n 0, 1) := dk_42 (dk_at dksX3_becomes_0 0 rfl rfl)
theorem dX3_becomes_1 : decode cX3_becomes 1 = .ok (.getfield 9, 3) := dk_180 0 9 (dk_at dksX3_becomes_0 1 rfl rfl)
theorem dX3_becomes_4 : decode cX3_becomes 4 = .ok (.iload_n 1, 1) := dk_27 (dk_at dksX3_becomes_0 4 rfl rfl)
theorem dX3_becomes_5 : decode cX3_becomes 5 = .ok (.iaload, 1) := dk_46 (dk_at dksX3_becomes_0 5 rfl rfl)
theorem dX3_becomes_6 : decode cX3_becomes 6 = .ok (.istore_n 3, 1) := dk_62 (dk_at dksX3_becomes_0 6 rfl rfl)
theorem dX3_becomes_7 : decode cX3_becomes 7 = .ok (.iload_n 3, 1) := dk_29 (dk_at dksX3_becomes_0 7 rfl rfl)
theorem dX3_becomes_8 : decode cX3_becomes 8 = .ok (.iload_n 2, 1) := dk_28 (dk_at dksX3_becomes_0 8 rfl rfl)
theorem dX3_becomes_9 : decode cX3_becomes 9 = .ok (.if_icmp .ne 5, 3) := dk_160 0 5 (dk_at dksX3_becomes_0 9 rfl rfl)
theorem dX3_becomes_12 : decode cX3_becomes 12 = .ok (.iload_n 3, 1) := dk_29 (dk_at dksX3_becomes_0 12 rfl rfl)
theorem dX3_becomes_13 : decode cX3_becomes 13 = .ok (.ireturn, 1) := dk_172 (dk_at dksX3_becomes_0 13 rfl rfl)
theorem dX3_becomes_14 : decode cX3_becomes 14 = .ok (.aload_n 0, 1) := dk_42 (dk_at dksX3_becomes_0 14 rfl rfl)
theorem dX3_becomes_15 : decode cX3_becomes 15 = .ok (.getfield 153, 3) := dk_180 0 153 (dk_at dksX3_becomes_0 15 rfl rfl)
theorem dX3_becomes_18 : decode cX3_becomes 18 = .ok (.bipush 40, 2) := dk_16 40 (dk_at dksX3_becomes_0 18 rfl rfl)
theorem dX3_becomes_20 : decode cX3_becomes 20 = .ok (.if_icmp .ne 77, 3) := dk_160 0 77 (dk_at dksX3_becomes_0 20 rfl rfl)
theorem dX3_becomes_23 : decode cX3_becomes 23 = .ok (.iconst 1, 1) := dk_4 (dk_at dksX3_becomes_0 23 rfl rfl)
theorem dX3_becomes_24 : decode cX3_becomes 24 = .ok (.istore 4, 2) := dk_54 4 (dk_at dksX3_becomes_1 0 rfl rfl)
theorem dX3_becomes_26 : decode cX3_becomes 26 = .ok (.iload 4, 2) := dk_21 4 (dk_at dksX3_becomes_1 2 rfl rfl)
theorem dX3_becomes_28 : decode cX3_becomes 28 = .ok (.bipush 40, 2) := dk_16 40 (dk_at dksX3_becomes_1 4 rfl rfl)
theorem dX3_becomes_30 : decode cX3_becomes 30 = .ok (.if_icmp .ge 57, 3) := dk_162 0 57 (dk_at dksX3_becomes_1 6 rfl rfl)
theorem dX3_becomes_33 : decode cX3_becomes 33 = .ok (.aload_n 0, 1) := dk_42 (dk_at dksX3_becomes_1 9 rfl rfl)
theorem dX3_becomes_34 : decode cX3_becomes 34 = .ok (.getfield 13, 3) := dk_180 0 13 (dk_at dksX3_becomes_1 10 rfl rfl)
theorem dX3_becomes_37 : decode cX3_becomes 37 = .ok (.iload 4, 2) := dk_21 4 (dk_at dksX3_becomes_1 13 rfl rfl)
theorem dX3_becomes_39 : decode cX3_becomes 39 = .ok (.iconst 1, 1) := dk_4 (dk_at dksX3_becomes_1 15 rfl rfl)
theorem dX3_becomes_40 : decode cX3_becomes 40 = .ok (.isub, 1) := dk_100 (dk_at dksX3_becomes_1 16 rfl rfl)
theorem dX3_becomes_41 : decode cX3_becomes 41 = .ok (.aload_n 0, 1) := dk_42 (dk_at dksX3_becomes_1 17 rfl rfl)
theorem dX3_becomes_42 : decode cX3_becomes 42 = .ok (.getfield 13, 3) := dk_180 0 13 (dk_at dksX3_becomes_1 18 rfl rfl)
theorem dX3_becomes_45 : decode cX3_becomes 45 = .ok (.iload 4, 2) := dk_21 4 (dk_at dksX3_becomes_1 21 rfl rfl)
theorem dX3_becomes_47 : decode cX3_becomes 47 = .ok (.iaload, 1) := dk_46 (dk_at dksX3_becomes_1 23 rfl rfl)
theorem dX3_becomes_48 : decode cX3_becomes 48 = .ok (.iastore, 1) := dk_79 (dk_at dksX3_becomes_2 0 rfl rfl)
theorem dX3_becomes_49 : decode cX3_becomes 49 = .ok (.aload_n 0, 1) := dk_42 (dk_at dksX3_becomes_2 1 rfl rfl)
theorem dX3_becomes_50 : decode cX3_becomes 50 = .ok (.getfield 16, 3) := dk_180 0 16 (dk_at dksX3_becomes_2 2 rfl rfl)
theorem dX3_becomes_53 : decode cX3_becomes 53 = .ok (.iload 4, 2) := dk_21 4 (dk_at dksX3_becomes_2 5 rfl rfl)
theorem dX3_becomes_55 : decode cX3_becomes 55 = .ok (.iconst 1, 1) := dk_4 (dk_at dksX3_becomes_2 7 rfl rfl)
theorem dX3_becomes_56 : decode cX3_becomes 56 = .ok (.isub, 1) := dk_100 (dk_at dksX3_becomes_2 8 rfl rfl)
theorem dX3_becomes_57 : decode cX3_becomes 57 = .ok (.aload_n 0, 1) := dk_42 (dk_at dksX3_becomes_2 9 rfl rfl)
theorem dX3_becomes_58 : decode cX3_becomes 58 = .ok (.getfield 16, 3) := dk_180 0 16 (dk_at dksX3_becomes_2 10 rfl rfl)
theorem dX3_becomes_61 : decode cX3_becomes 61 = .ok (.iload 4, 2) := dk_21 4 (dk_at dksX3_becomes_2 13 rfl rfl)
theorem dX3_becomes_63 : decode cX3_becomes 63 = .ok (.iaload, 1) := dk_46 (dk_at dksX3_becomes_2 15 rfl rfl)
theorem dX3_becomes_64 : decode cX3_becomes 64 = .ok (.iastore, 1) := dk_79 (dk_at dksX3_becomes_2 16 rfl rfl)
theorem dX3_becomes_65 : decode cX3_becomes 65 = .ok (.aload_n 0, 1) := dk_42 (dk_at dksX3_becomes_2 17 rfl rfl)
theorem dX3_becomes_66 : decode cX3_becomes 66 = .ok (.getfield 19, 3) := dk_180 0 19 (dk_at dksX3_becomes_2 18 rfl rfl)
theorem dX3_becomes_69 : decode cX3_becomes 69 = .ok (.iload 4, 2) := dk_21 4 (dk_at dksX3_becomes_2 21 rfl rfl)
theorem dX3_becomes_71 : decode cX3_becomes 71 = .ok (.iconst 1, 1) := dk_4 (dk_at dksX3_becomes_2 23 rfl rfl)
theorem dX3_becomes_72 : decode cX3_becomes 72 = .ok (.isub, 1) := dk_100 (dk_at dksX3_becomes_3 0 rfl rfl)
theorem dX3_becomes_73 : decode cX3_becomes 73 = .ok (.aload_n 0, 1) := dk_42 (dk_at dksX3_becomes_3 1 rfl rfl)
theorem dX3_becomes_74 : decode cX3_becomes 74 = .ok (.getfield 19, 3) := dk_180 0 19 (dk_at dksX3_becomes_3 2 rfl rfl)
theorem dX3_becomes_77 : decode cX3_becomes 77 = .ok (.iload 4, 2) := dk_21 4 (dk_at dksX3_becomes_3 5 rfl rfl)
theorem dX3_becomes_79 : decode cX3_becomes 79 = .ok (.iaload, 1) := dk_46 (dk_at dksX3_becomes_3 7 rfl rfl)
theorem dX3_becomes_80 : decode cX3_becomes 80 = .ok (.iastore, 1) := dk_79 (dk_at dksX3_becomes_3 8 rfl rfl)
theorem dX3_becomes_81 : decode cX3_becomes 81 = .ok (.iinc 4 1, 3) := dk_132 4 1 (dk_at dksX3_becomes_3 9 rfl rfl)
theorem dX3_becomes_84 : decode cX3_becomes 84 = .ok (.goto (-58), 3) := dk_167 255 198 (dk_at dksX3_becomes_3 12 rfl rfl)
theorem dX3_becomes_87 : decode cX3_becomes 87 = .ok (.aload_n 0, 1) := dk_42 (dk_at dksX3_becomes_3 15 rfl rfl)
theorem dX3_becomes_88 : decode cX3_becomes 88 = .ok (.dup, 1) := dk_89 (dk_at dksX3_becomes_3 16 rfl rfl)
theorem dX3_becomes_89 : decode cX3_becomes 89 = .ok (.getfield 153, 3) := dk_180 0 153 (dk_at dksX3_becomes_3 17 rfl rfl)
theorem dX3_becomes_92 : decode cX3_becomes 92 = .ok (.iconst 1, 1) := dk_4 (dk_at dksX3_becomes_3 20 rfl rfl)
theorem dX3_becomes_93 : decode cX3_becomes 93 = .ok (.isub, 1) := dk_100 (dk_at dksX3_becomes_3 21 rfl rfl)
theorem dX3_becomes_94 : decode cX3_becomes 94 = .ok (.putfield 153, 3) := dk_181 0 153 (dk_at dksX3_becomes_4 0 rfl rfl)
theorem dX3_becomes_97 : decode cX3_becomes 97 = .ok (.aload_n 0, 1) := dk_42 (dk_at dksX3_becomes_4 3 rfl rfl)
theorem dX3_becomes_98 : decode cX3_becomes 98 = .ok (.getfield 13, 3) := dk_180 0 13 (dk_at dksX3_becomes_4 4 rfl rfl)
theorem dX3_becomes_101 : decode cX3_becomes 101 = .ok (.aload_n 0, 1) := dk_42 (dk_at dksX3_becomes_4 7 rfl rfl)
theorem dX3_becomes_102 : decode cX3_becomes 102 = .ok (.getfield 153, 3) := dk_180 0 153 (dk_at dksX3_becomes_4 8 rfl rfl)
theorem dX3_becomes_105 : decode cX3_becomes 105 = .ok (.iload_n 1, 1) := dk_27 (dk_at dksX3_becomes_4 11 rfl rfl)
theorem dX3_becomes_106 : decode cX3_becomes 106 = .ok (.iastore, 1) := dk_79 (dk_at dksX3_becomes_4 12 rfl rfl)
theorem dX3_becomes_107 : decode cX3_becomes 107 = .ok (.aload_n 0, 1) := dk_42 (dk_at dksX3_becomes_4 13 rfl rfl)
theorem dX3_becomes_108 : decode cX3_becomes 108 = .ok (.getfield 16, 3) := dk_180 0 16 (dk_at dksX3_becomes_4 14 rfl rfl)
theorem dX3_becomes_111 : decode cX3_becomes 111 = .ok (.aload_n 0, 1) := dk_42 (dk_at dksX3_becomes_4 17 rfl rfl)
theorem dX3_becomes_112 : decode cX3_becomes 112 = .ok (.getfield 153, 3) := dk_180 0 153 (dk_at dksX3_becomes_4 18 rfl rfl)
theorem dX3_becomes_115 : decode cX3_becomes 115 = .ok (.iload_n 3, 1) := dk_29 (dk_at dksX3_becomes_4 21 rfl rfl)
theorem dX3_becomes_116 : decode cX3_becomes 116 = .ok (.iastore, 1) := dk_79 (dk_at dksX3_becomes_4 22 rfl rfl)
theorem dX3_becomes_117 : decode cX3_becomes 117 = .ok (.aload_n 0, 1) := dk_42 (dk_at dksX3_becomes_4 23 rfl rfl)
theorem dX3_becomes_118 : decode cX3_becomes 118 = .ok (.getfield 19, 3) := dk_180 0 19 (dk_at dksX3_becomes_5 0 rfl rfl)
theorem dX3_becomes_121 : decode cX3_becomes 121 = .ok (.aload_n 0, 1) := dk_42 (dk_at dksX3_becomes_5 3 rfl rfl)
theorem dX3_becomes_122 : decode cX3_becomes 122 = .ok (.getfield 153, 3) := dk_180 0 153 (dk_at dksX3_becomes_5 4 rfl rfl)
theorem dX3_becomes_125 : decode cX3_becomes 125 = .ok (.iload_n 2, 1) := dk_28 (dk_at dksX3_becomes_5 7 rfl rfl)
theorem dX3_becomes_126 : decode cX3_becomes 126 = .ok (.iastore, 1) := dk_79 (dk_at dksX3_becomes_5 8 rfl rfl)
theorem dX3_becomes_127 : decode cX3_becomes 127 = .ok (.aload_n 0, 1) := dk_42 (dk_at dksX3_becomes_5 9 rfl rfl)
theorem dX3_becomes_128 : decode cX3_becomes 128 = .ok (.dup, 1) := dk_89 (dk_at dksX3_becomes_5 10 rfl rfl)
theorem dX3_becomes_129 : decode cX3_becomes 129 = .ok (.getfield 153, 3) := dk_180 0 153 (dk_at dksX3_becomes_5 11 rfl rfl)
theorem dX3_becomes_132 : decode cX3_becomes 132 = .ok (.iconst 1, 1) := dk_4 (dk_at dksX3_becomes_5 14 rfl rfl)
theorem dX3_becomes_133 : decode cX3_becomes 133 = .ok (.iadd, 1) := dk_96 (dk_at dksX3_becomes_5 15 rfl rfl)
theorem dX3_becomes_134 : decode cX3_becomes 134 = .ok (.putfield 153, 3) := dk_181 0 153 (dk_at dksX3_becomes_5 16 rfl rfl)
theorem dX3_becomes_137 : decode cX3_becomes 137 = .ok (.aload_n 0, 1) := dk_42 (dk_at dksX3_becomes_5 19 rfl rfl)
theorem dX3_becomes_138 : decode cX3_becomes 138 = .ok (.aload_n 0, 1) := dk_42 (dk_at dksX3_becomes_5 20 rfl rfl)
theorem dX3_becomes_139 : decode cX3_becomes 139 = .ok (.getfield 153, 3) := dk_180 0 153 (dk_at dksX3_becomes_5 21 rfl rfl)
theorem dX3_becomes_142 : decode cX3_becomes 142 = .ok (.putfield 156, 3) := dk_181 0 156 (dk_at dksX3_becomes_6 0 rfl rfl)
theorem dX3_becomes_145 : decode cX3_becomes 145 = .ok (.aload_n 0, 1) := dk_42 (dk_at dksX3_becomes_6 3 rfl rfl)
theorem dX3_becomes_146 : decode cX3_becomes 146 = .ok (.getfield 9, 3) := dk_180 0 9 (dk_at dksX3_becomes_6 4 rfl rfl)
theorem dX3_becomes_149 : decode cX3_becomes 149 = .ok (.iload_n 1, 1) := dk_27 (dk_at dksX3_becomes_6 7 rfl rfl)
theorem dX3_becomes_150 : decode cX3_becomes 150 = .ok (.iload_n 2, 1) := dk_28 (dk_at dksX3_becomes_6 8 rfl rfl)
theorem dX3_becomes_151 : decode cX3_becomes 151 = .ok (.iastore, 1) := dk_79 (dk_at dksX3_becomes_6 9 rfl rfl)
theorem dX3_becomes_152 : decode cX3_becomes 152 = .ok (.iload_n 3, 1) := dk_29 (dk_at dksX3_becomes_6 10 rfl rfl)
theorem dX3_becomes_153 : decode cX3_becomes 153 = .ok (.ireturn, 1) := dk_172 (dk_at dksX3_becomes_6 11 rfl rfl)
abbrev cX3_isThing : ByteArray := prog_34_method_8_code
def yX3_isThing : MethodName := ⟨RX3, "isThing", "(I)Z"⟩
def dkwX3_isThing_0 : List UInt8 := [27, 133, 9, 42, 180, 0, 166, 4, 100, 133, 184, 0, 162, 172]
abbrev dktX3_isThing_0 : List UInt8 := dkwX3_isThing_0 ++ []
theorem dksX3_isThing_0 : cX3_isThing.data.toList.drop 0 = dktX3_isThing_0 := by decide +kernel
theorem dX3_isThing_0 : decode cX3_isThing 0 = .ok (.iload_n 1, 1) := dk_27 (dk_at dksX3_isThing_0 0 rfl rfl)
theorem dX3_isThing_1 : decode cX3_isThing 1 = .ok (.i2l, 1) := dk_133 (dk_at dksX3_isThing_0 1 rfl rfl)
theorem dX3_isThing_2 : decode cX3_isThing 2 = .ok (.lconst 0, 1) := dk_9 (dk_at dksX3_isThing_0 2 rfl rfl)
theorem dX3_isThing_3 : decode cX3_isThing 3 = .ok (.aload_n 0, 1) := dk_42 (dk_at dksX3_isThing_0 3 rfl rfl)
theorem dX3_isThing_4 : decode cX3_isThing 4 = .ok (.getfield 166, 3) := dk_180 0 166 (dk_at dksX3_isThing_0 4 rfl rfl)
theorem dX3_isThing_7 : decode cX3_isThing 7 = .ok (.iconst 1, 1) := dk_4 (dk_at dksX3_isThing_0 7 rfl rfl)
theorem dX3_isThing_8 : decode cX3_isThing 8 = .ok (.isub, 1) := dk_100 (dk_at dksX3_isThing_0 8 rfl rfl)
theorem dX3_isThing_9 : decode cX3_isThing 9 = .ok (.i2l, 1) := dk_133 (dk_at dksX3_isThing_0 9 rfl rfl)
theorem dX3_isThing_10 : decode cX3_isThing 10 = .ok (.invokestatic 162, 3) := dk_184 0 162 (dk_at dksX3_isThing_0 10 rfl rfl)
theorem dX3_isThing_13 : decode cX3_isThing 13 = .ok (.ireturn, 1) := dk_172 (dk_at dksX3_isThing_0 13 rfl rfl)
abbrev cX3_of : ByteArray := prog_34_method_20_code
def yX3_of : MethodName := ⟨RX3, "of", "(II)I"⟩
def dkwX3_of_10 : List UInt8 := [46, 167, 0, 5, 18, 218, 172, 18, 218, 172]
abbrev dktX3_of_10 : List UInt8 := dkwX3_of_10 ++ []
def dkwX3_of_9 : List UInt8 := [180, 0, 28, 27, 46, 167, 0, 5, 18, 218, 172, 42, 27, 182, 0, 222, 153, 0, 12, 42, 180, 0, 31, 27]
abbrev dktX3_of_9 : List UInt8 := dkwX3_of_9 ++ dktX3_of_10
def dkwX3_of_8 : List UInt8 := [153, 0, 12, 42, 180, 0, 25, 27, 46, 167, 0, 5, 18, 218, 172, 42, 27, 182, 0, 222, 153, 0, 12, 42]
abbrev dktX3_of_8 : List UInt8 := dkwX3_of_8 ++ dktX3_of_9
def dkwX3_of_7 : List UInt8 := [153, 0, 15, 42, 180, 0, 9, 16, 36, 27, 96, 46, 167, 0, 5, 18, 218, 172, 42, 27, 182, 0, 222]
abbrev dktX3_of_7 : List UInt8 := dkwX3_of_7 ++ dktX3_of_8
def dkwX3_of_6 : List UInt8 := [153, 0, 15, 42, 180, 0, 9, 16, 30, 27, 96, 46, 167, 0, 5, 18, 218, 172, 42, 27, 182, 0, 219]
abbrev dktX3_of_6 : List UInt8 := dkwX3_of_6 ++ dktX3_of_7
def dkwX3_of_5 : List UInt8 := [153, 0, 15, 42, 180, 0, 9, 16, 20, 27, 96, 46, 167, 0, 5, 18, 218, 172, 42, 27, 182, 0, 219]
abbrev dktX3_of_5 : List UInt8 := dkwX3_of_5 ++ dktX3_of_6
def dkwX3_of_4 : List UInt8 := [182, 0, 211, 153, 0, 12, 42, 180, 0, 22, 27, 46, 167, 0, 5, 18, 218, 172, 42, 27, 182, 0, 211]
abbrev dktX3_of_4 : List UInt8 := dkwX3_of_4 ++ dktX3_of_5
def dkwX3_of_3 : List UInt8 := [182, 0, 211, 153, 0, 15, 42, 180, 0, 9, 16, 10, 27, 96, 46, 167, 0, 5, 18, 218, 172, 42, 27]
abbrev dktX3_of_3 : List UInt8 := dkwX3_of_3 ++ dktX3_of_4
def dkwX3_of_2 : List UInt8 := [42, 27, 182, 0, 211, 153, 0, 12, 42, 180, 0, 9, 27, 46, 167, 0, 5, 18, 218, 172, 42, 27]
abbrev dktX3_of_2 : List UInt8 := dkwX3_of_2 ++ dktX3_of_3
def dkwX3_of_1 : List UInt8 := [170, 0, 0, 0, 0, 1, 43, 0, 0, 0, 0, 0, 0, 0, 22, 0, 0, 0, 107, 0, 0, 0, 127, 0, 0, 0, 150, 0, 0, 0, 170, 0, 0, 1, 43, 0, 0, 1, 43, 0, 0, 1, 43, 0, 0, 1, 43, 0, 0, 1, 43, 0, 0, 1, 43, 0, 0, 0, 193, 0, 0, 0, 216, 0, 0, 1, 43, 0, 0, 1, 43, 0, 0, 1, 43, 0, 0, 1, 43, 0, 0, 1, 43, 0, 0, 1, 43, 0, 0, 1, 43, 0, 0, 1, 43, 0, 0, 0, 239, 0, 0, 1, 3, 0, 0, 1, 23]
abbrev dktX3_of_1 : List UInt8 := dkwX3_of_1 ++ dktX3_of_2
def dkwX3_of_0 : List UInt8 := [28]
abbrev dktX3_of_0 : List UInt8 := dkwX3_of_0 ++ dktX3_of_1
theorem dksX3_of_0 : cX3_of.data.toList.drop 0 = dktX3_of_0 := by decide +kernel
theorem dksX3_of_1 : cX3_of.data.toList.drop 1 = dktX3_of_1 := dk_seg dksX3_of_0 1 rfl rfl
theorem dksX3_of_2 : cX3_of.data.toList.drop 108 = dktX3_of_2 := dk_seg dksX3_of_1 107 rfl rfl
theorem dksX3_of_3 : cX3_of.data.toList.drop 130 = dktX3_of_3 := dk_seg dksX3_of_2 22 rfl rfl
theorem dksX3_of_4 : cX3_of.data.toList.drop 153 = dktX3_of_4 := dk_seg dksX3_of_3 23 rfl rfl
theorem dksX3_of_5 : cX3_of.data.toList.drop 176 = dktX3_of_5 := dk_seg dksX3_of_4 23 rfl rfl
theorem dksX3_of_6 : cX3_of.data.toList.drop 199 = dktX3_of_6 := dk_seg dksX3_of_5 23 rfl rfl
theorem dksX3_of_7 : cX3_of.data.toList.drop 222 = dktX3_of_7 := dk_seg dksX3_of_6 23 rfl rfl
theorem dksX3_of_8 : cX3_of.data.toList.drop 245 = dktX3_of_8 := dk_seg dksX3_of_7 23 rfl rfl
theorem dksX3_of_9 : cX3_of.data.toList.drop 269 = dktX3_of_9 := dk_seg dksX3_of_8 24 rfl rfl
theorem dksX3_of_10 : cX3_of.data.toList.drop 293 = dktX3_of_10 := dk_seg dksX3_of_9 24 rfl rfl
theorem dX3_of_0 : decode cX3_of 0 = .ok (.iload_n 2, 1) := dk_28 (dk_at dksX3_of_0 0 rfl rfl)
theorem dX3_of_1 : decode cX3_of 1 = .ok (.tableswitch 299 0 22 #[107, 127, 150, 170, 299, 299, 299, 299, 299, 299, 193, 216, 299, 299, 299, 299, 299, 299, 299, 299, 239, 259, 279], 107) := by decide +kernel
theorem dX3_of_108 : decode cX3_of 108 = .ok (.aload_n 0, 1) := dk_42 (dk_at dksX3_of_2 0 rfl rfl)
theorem dX3_of_109 : decode cX3_of 109 = .ok (.iload_n 1, 1) := dk_27 (dk_at dksX3_of_2 1 rfl rfl)
theorem dX3_of_110 : decode cX3_of 110 = .ok (.invokevirtual 211, 3) := dk_182 0 211 (dk_at dksX3_of_2 2 rfl rfl)
theorem dX3_of_113 : decode cX3_of 113 = .ok (.ifCond .eq 12, 3) := dk_153 0 12 (dk_at dksX3_of_2 5 rfl rfl)
theorem dX3_of_116 : decode cX3_of 116 = .ok (.aload_n 0, 1) := dk_42 (dk_at dksX3_of_2 8 rfl rfl)
theorem dX3_of_117 : decode cX3_of 117 = .ok (.getfield 9, 3) := dk_180 0 9 (dk_at dksX3_of_2 9 rfl rfl)
theorem dX3_of_120 : decode cX3_of 120 = .ok (.iload_n 1, 1) := dk_27 (dk_at dksX3_of_2 12 rfl rfl)
theorem dX3_of_121 : decode cX3_of 121 = .ok (.iaload, 1) := dk_46 (dk_at dksX3_of_2 13 rfl rfl)
theorem dX3_of_122 : decode cX3_of 122 = .ok (.goto 5, 3) := dk_167 0 5 (dk_at dksX3_of_2 14 rfl rfl)
theorem dX3_of_125 : decode cX3_of 125 = .ok (.ldc 218, 2) := dk_18 218 (dk_at dksX3_of_2 17 rfl rfl)
theorem dX3_of_127 : decode cX3_of 127 = .ok (.ireturn, 1) := dk_172 (dk_at dksX3_of_2 19 rfl rfl)
theorem dX3_of_128 : decode cX3_of 128 = .ok (.aload_n 0, 1) := dk_42 (dk_at dksX3_of_2 20 rfl rfl)
theorem dX3_of_129 : decode cX3_of 129 = .ok (.iload_n 1, 1) := dk_27 (dk_at dksX3_of_2 21 rfl rfl)
theorem dX3_of_130 : decode cX3_of 130 = .ok (.invokevirtual 211, 3) := dk_182 0 211 (dk_at dksX3_of_3 0 rfl rfl)
theorem dX3_of_133 : decode cX3_of 133 = .ok (.ifCond .eq 15, 3) := dk_153 0 15 (dk_at dksX3_of_3 3 rfl rfl)
theorem dX3_of_136 : decode cX3_of 136 = .ok (.aload_n 0, 1) := dk_42 (dk_at dksX3_of_3 6 rfl rfl)
theorem dX3_of_137 : decode cX3_of 137 = .ok (.getfield 9, 3) := dk_180 0 9 (dk_at dksX3_of_3 7 rfl rfl)
theorem dX3_of_140 : decode cX3_of 140 = .ok (.bipush 10, 2) := dk_16 10 (dk_at dksX3_of_3 10 rfl rfl)
theorem dX3_of_142 : decode cX3_of 142 = .ok (.iload_n 1, 1) := dk_27 (dk_at dksX3_of_3 12 rfl rfl)
theorem dX3_of_143 : decode cX3_of 143 = .ok (.iadd, 1) := dk_96 (dk_at dksX3_of_3 13 rfl rfl)
theorem dX3_of_144 : decode cX3_of 144 = .ok (.iaload, 1) := dk_46 (dk_at dksX3_of_3 14 rfl rfl)
theorem dX3_of_145 : decode cX3_of 145 = .ok (.goto 5, 3) := dk_167 0 5 (dk_at dksX3_of_3 15 rfl rfl)
theorem dX3_of_148 : decode cX3_of 148 = .ok (.ldc 218, 2) := dk_18 218 (dk_at dksX3_of_3 18 rfl rfl)
theorem dX3_of_150 : decode cX3_of 150 = .ok (.ireturn, 1) := dk_172 (dk_at dksX3_of_3 20 rfl rfl)
theorem dX3_of_151 : decode cX3_of 151 = .ok (.aload_n 0, 1) := dk_42 (dk_at dksX3_of_3 21 rfl rfl)
theorem dX3_of_152 : decode cX3_of 152 = .ok (.iload_n 1, 1) := dk_27 (dk_at dksX3_of_3 22 rfl rfl)
theorem dX3_of_153 : decode cX3_of 153 = .ok (.invokevirtual 211, 3) := dk_182 0 211 (dk_at dksX3_of_4 0 rfl rfl)
theorem dX3_of_156 : decode cX3_of 156 = .ok (.ifCond .eq 12, 3) := dk_153 0 12 (dk_at dksX3_of_4 3 rfl rfl)
theorem dX3_of_159 : decode cX3_of 159 = .ok (.aload_n 0, 1) := dk_42 (dk_at dksX3_of_4 6 rfl rfl)
theorem dX3_of_160 : decode cX3_of 160 = .ok (.getfield 22, 3) := dk_180 0 22 (dk_at dksX3_of_4 7 rfl rfl)
theorem dX3_of_163 : decode cX3_of 163 = .ok (.iload_n 1, 1) := dk_27 (dk_at dksX3_of_4 10 rfl rfl)
theorem dX3_of_164 : decode cX3_of 164 = .ok (.iaload, 1) := dk_46 (dk_at dksX3_of_4 11 rfl rfl)
theorem dX3_of_165 : decode cX3_of 165 = .ok (.goto 5, 3) := dk_167 0 5 (dk_at dksX3_of_4 12 rfl rfl)
theorem dX3_of_168 : decode cX3_of 168 = .ok (.ldc 218, 2) := dk_18 218 (dk_at dksX3_of_4 15 rfl rfl)
theorem dX3_of_170 : decode cX3_of 170 = .ok (.ireturn, 1) := dk_172 (dk_at dksX3_of_4 17 rfl rfl)
theorem dX3_of_171 : decode cX3_of 171 = .ok (.aload_n 0, 1) := dk_42 (dk_at dksX3_of_4 18 rfl rfl)
theorem dX3_of_172 : decode cX3_of 172 = .ok (.iload_n 1, 1) := dk_27 (dk_at dksX3_of_4 19 rfl rfl)
theorem dX3_of_173 : decode cX3_of 173 = .ok (.invokevirtual 211, 3) := dk_182 0 211 (dk_at dksX3_of_4 20 rfl rfl)
theorem dX3_of_176 : decode cX3_of 176 = .ok (.ifCond .eq 15, 3) := dk_153 0 15 (dk_at dksX3_of_5 0 rfl rfl)
theorem dX3_of_179 : decode cX3_of 179 = .ok (.aload_n 0, 1) := dk_42 (dk_at dksX3_of_5 3 rfl rfl)
theorem dX3_of_180 : decode cX3_of 180 = .ok (.getfield 9, 3) := dk_180 0 9 (dk_at dksX3_of_5 4 rfl rfl)
theorem dX3_of_183 : decode cX3_of 183 = .ok (.bipush 20, 2) := dk_16 20 (dk_at dksX3_of_5 7 rfl rfl)
theorem dX3_of_185 : decode cX3_of 185 = .ok (.iload_n 1, 1) := dk_27 (dk_at dksX3_of_5 9 rfl rfl)
theorem dX3_of_186 : decode cX3_of 186 = .ok (.iadd, 1) := dk_96 (dk_at dksX3_of_5 10 rfl rfl)
theorem dX3_of_187 : decode cX3_of 187 = .ok (.iaload, 1) := dk_46 (dk_at dksX3_of_5 11 rfl rfl)
theorem dX3_of_188 : decode cX3_of 188 = .ok (.goto 5, 3) := dk_167 0 5 (dk_at dksX3_of_5 12 rfl rfl)
theorem dX3_of_191 : decode cX3_of 191 = .ok (.ldc 218, 2) := dk_18 218 (dk_at dksX3_of_5 15 rfl rfl)
theorem dX3_of_193 : decode cX3_of 193 = .ok (.ireturn, 1) := dk_172 (dk_at dksX3_of_5 17 rfl rfl)
theorem dX3_of_194 : decode cX3_of 194 = .ok (.aload_n 0, 1) := dk_42 (dk_at dksX3_of_5 18 rfl rfl)
theorem dX3_of_195 : decode cX3_of 195 = .ok (.iload_n 1, 1) := dk_27 (dk_at dksX3_of_5 19 rfl rfl)
theorem dX3_of_196 : decode cX3_of 196 = .ok (.invokevirtual 219, 3) := dk_182 0 219 (dk_at dksX3_of_5 20 rfl rfl)
theorem dX3_of_199 : decode cX3_of 199 = .ok (.ifCond .eq 15, 3) := dk_153 0 15 (dk_at dksX3_of_6 0 rfl rfl)
theorem dX3_of_202 : decode cX3_of 202 = .ok (.aload_n 0, 1) := dk_42 (dk_at dksX3_of_6 3 rfl rfl)
theorem dX3_of_203 : decode cX3_of 203 = .ok (.getfield 9, 3) := dk_180 0 9 (dk_at dksX3_of_6 4 rfl rfl)
theorem dX3_of_206 : decode cX3_of 206 = .ok (.bipush 30, 2) := dk_16 30 (dk_at dksX3_of_6 7 rfl rfl)
theorem dX3_of_208 : decode cX3_of 208 = .ok (.iload_n 1, 1) := dk_27 (dk_at dksX3_of_6 9 rfl rfl)
theorem dX3_of_209 : decode cX3_of 209 = .ok (.iadd, 1) := dk_96 (dk_at dksX3_of_6 10 rfl rfl)
theorem dX3_of_210 : decode cX3_of 210 = .ok (.iaload, 1) := dk_46 (dk_at dksX3_of_6 11 rfl rfl)
theorem dX3_of_211 : decode cX3_of 211 = .ok (.goto 5, 3) := dk_167 0 5 (dk_at dksX3_of_6 12 rfl rfl)
theorem dX3_of_214 : decode cX3_of 214 = .ok (.ldc 218, 2) := dk_18 218 (dk_at dksX3_of_6 15 rfl rfl)
theorem dX3_of_216 : decode cX3_of 216 = .ok (.ireturn, 1) := dk_172 (dk_at dksX3_of_6 17 rfl rfl)
theorem dX3_of_217 : decode cX3_of 217 = .ok (.aload_n 0, 1) := dk_42 (dk_at dksX3_of_6 18 rfl rfl)
theorem dX3_of_218 : decode cX3_of 218 = .ok (.iload_n 1, 1) := dk_27 (dk_at dksX3_of_6 19 rfl rfl)
theorem dX3_of_219 : decode cX3_of 219 = .ok (.invokevirtual 219, 3) := dk_182 0 219 (dk_at dksX3_of_6 20 rfl rfl)
theorem dX3_of_222 : decode cX3_of 222 = .ok (.ifCond .eq 15, 3) := dk_153 0 15 (dk_at dksX3_of_7 0 rfl rfl)
theorem dX3_of_225 : decode cX3_of 225 = .ok (.aload_n 0, 1) := dk_42 (dk_at dksX3_of_7 3 rfl rfl)
theorem dX3_of_226 : decode cX3_of 226 = .ok (.getfield 9, 3) := dk_180 0 9 (dk_at dksX3_of_7 4 rfl rfl)
theorem dX3_of_229 : decode cX3_of 229 = .ok (.bipush 36, 2) := dk_16 36 (dk_at dksX3_of_7 7 rfl rfl)
theorem dX3_of_231 : decode cX3_of 231 = .ok (.iload_n 1, 1) := dk_27 (dk_at dksX3_of_7 9 rfl rfl)
theorem dX3_of_232 : decode cX3_of 232 = .ok (.iadd, 1) := dk_96 (dk_at dksX3_of_7 10 rfl rfl)
theorem dX3_of_233 : decode cX3_of 233 = .ok (.iaload, 1) := dk_46 (dk_at dksX3_of_7 11 rfl rfl)
theorem dX3_of_234 : decode cX3_of 234 = .ok (.goto 5, 3) := dk_167 0 5 (dk_at dksX3_of_7 12 rfl rfl)
theorem dX3_of_237 : decode cX3_of 237 = .ok (.ldc 218, 2) := dk_18 218 (dk_at dksX3_of_7 15 rfl rfl)
theorem dX3_of_239 : decode cX3_of 239 = .ok (.ireturn, 1) := dk_172 (dk_at dksX3_of_7 17 rfl rfl)
theorem dX3_of_240 : decode cX3_of 240 = .ok (.aload_n 0, 1) := dk_42 (dk_at dksX3_of_7 18 rfl rfl)
theorem dX3_of_241 : decode cX3_of 241 = .ok (.iload_n 1, 1) := dk_27 (dk_at dksX3_of_7 19 rfl rfl)
theorem dX3_of_242 : decode cX3_of 242 = .ok (.invokevirtual 222, 3) := dk_182 0 222 (dk_at dksX3_of_7 20 rfl rfl)
theorem dX3_of_245 : decode cX3_of 245 = .ok (.ifCond .eq 12, 3) := dk_153 0 12 (dk_at dksX3_of_8 0 rfl rfl)
theorem dX3_of_248 : decode cX3_of 248 = .ok (.aload_n 0, 1) := dk_42 (dk_at dksX3_of_8 3 rfl rfl)
theorem dX3_of_249 : decode cX3_of 249 = .ok (.getfield 25, 3) := dk_180 0 25 (dk_at dksX3_of_8 4 rfl rfl)
theorem dX3_of_252 : decode cX3_of 252 = .ok (.iload_n 1, 1) := dk_27 (dk_at dksX3_of_8 7 rfl rfl)
theorem dX3_of_253 : decode cX3_of 253 = .ok (.iaload, 1) := dk_46 (dk_at dksX3_of_8 8 rfl rfl)
theorem dX3_of_254 : decode cX3_of 254 = .ok (.goto 5, 3) := dk_167 0 5 (dk_at dksX3_of_8 9 rfl rfl)
theorem dX3_of_257 : decode cX3_of 257 = .ok (.ldc 218, 2) := dk_18 218 (dk_at dksX3_of_8 12 rfl rfl)
theorem dX3_of_259 : decode cX3_of 259 = .ok (.ireturn, 1) := dk_172 (dk_at dksX3_of_8 14 rfl rfl)
theorem dX3_of_260 : decode cX3_of 260 = .ok (.aload_n 0, 1) := dk_42 (dk_at dksX3_of_8 15 rfl rfl)
theorem dX3_of_261 : decode cX3_of 261 = .ok (.iload_n 1, 1) := dk_27 (dk_at dksX3_of_8 16 rfl rfl)
theorem dX3_of_262 : decode cX3_of 262 = .ok (.invokevirtual 222, 3) := dk_182 0 222 (dk_at dksX3_of_8 17 rfl rfl)
theorem dX3_of_265 : decode cX3_of 265 = .ok (.ifCond .eq 12, 3) := dk_153 0 12 (dk_at dksX3_of_8 20 rfl rfl)
theorem dX3_of_268 : decode cX3_of 268 = .ok (.aload_n 0, 1) := dk_42 (dk_at dksX3_of_8 23 rfl rfl)
theorem dX3_of_269 : decode cX3_of 269 = .ok (.getfield 28, 3) := dk_180 0 28 (dk_at dksX3_of_9 0 rfl rfl)
theorem dX3_of_272 : decode cX3_of 272 = .ok (.iload_n 1, 1) := dk_27 (dk_at dksX3_of_9 3 rfl rfl)
theorem dX3_of_273 : decode cX3_of 273 = .ok (.iaload, 1) := dk_46 (dk_at dksX3_of_9 4 rfl rfl)
theorem dX3_of_274 : decode cX3_of 274 = .ok (.goto 5, 3) := dk_167 0 5 (dk_at dksX3_of_9 5 rfl rfl)
theorem dX3_of_277 : decode cX3_of 277 = .ok (.ldc 218, 2) := dk_18 218 (dk_at dksX3_of_9 8 rfl rfl)
theorem dX3_of_279 : decode cX3_of 279 = .ok (.ireturn, 1) := dk_172 (dk_at dksX3_of_9 10 rfl rfl)
theorem dX3_of_280 : decode cX3_of 280 = .ok (.aload_n 0, 1) := dk_42 (dk_at dksX3_of_9 11 rfl rfl)
theorem dX3_of_281 : decode cX3_of 281 = .ok (.iload_n 1, 1) := dk_27 (dk_at dksX3_of_9 12 rfl rfl)
theorem dX3_of_282 : decode cX3_of 282 = .ok (.invokevirtual 222, 3) := dk_182 0 222 (dk_at dksX3_of_9 13 rfl rfl)
theorem dX3_of_285 : decode cX3_of 285 = .ok (.ifCond .eq 12, 3) := dk_153 0 12 (dk_at dksX3_of_9 16 rfl rfl)
theorem dX3_of_288 : decode cX3_of 288 = .ok (.aload_n 0, 1) := dk_42 (dk_at dksX3_of_9 19 rfl rfl)
theorem dX3_of_289 : decode cX3_of 289 = .ok (.getfield 31, 3) := dk_180 0 31 (dk_at dksX3_of_9 20 rfl rfl)
theorem dX3_of_292 : decode cX3_of 292 = .ok (.iload_n 1, 1) := dk_27 (dk_at dksX3_of_9 23 rfl rfl)
theorem dX3_of_293 : decode cX3_of 293 = .ok (.iaload, 1) := dk_46 (dk_at dksX3_of_10 0 rfl rfl)
theorem dX3_of_294 : decode cX3_of 294 = .ok (.goto 5, 3) := dk_167 0 5 (dk_at dksX3_of_10 1 rfl rfl)
theorem dX3_of_297 : decode cX3_of 297 = .ok (.ldc 218, 2) := dk_18 218 (dk_at dksX3_of_10 4 rfl rfl)
theorem dX3_of_299 : decode cX3_of 299 = .ok (.ireturn, 1) := dk_172 (dk_at dksX3_of_10 6 rfl rfl)
theorem dX3_of_300 : decode cX3_of 300 = .ok (.ldc 218, 2) := dk_18 218 (dk_at dksX3_of_10 7 rfl rfl)
theorem dX3_of_302 : decode cX3_of 302 = .ok (.ireturn, 1) := dk_172 (dk_at dksX3_of_10 9 rfl rfl)
abbrev cX3_isCard : ByteArray := prog_34_method_9_code
def yX3_isCard : MethodName := ⟨RX3, "isCard", "(I)Z"⟩
def dkwX3_isCard_0 : List UInt8 := [27, 133, 9, 42, 180, 0, 169, 4, 100, 133, 184, 0, 162, 172]
abbrev dktX3_isCard_0 : List UInt8 := dkwX3_isCard_0 ++ []
theorem dksX3_isCard_0 : cX3_isCard.data.toList.drop 0 = dktX3_isCard_0 := by decide +kernel
theorem dX3_isCard_0 : decode cX3_isCard 0 = .ok (.iload_n 1, 1) := dk_27 (dk_at dksX3_isCard_0 0 rfl rfl)
theorem dX3_isCard_1 : decode cX3_isCard 1 = .ok (.i2l, 1) := dk_133 (dk_at dksX3_isCard_0 1 rfl rfl)
theorem dX3_isCard_2 : decode cX3_isCard 2 = .ok (.lconst 0, 1) := dk_9 (dk_at dksX3_isCard_0 2 rfl rfl)
theorem dX3_isCard_3 : decode cX3_isCard 3 = .ok (.aload_n 0, 1) := dk_42 (dk_at dksX3_isCard_0 3 rfl rfl)
theorem dX3_isCard_4 : decode cX3_isCard 4 = .ok (.getfield 169, 3) := dk_180 0 169 (dk_at dksX3_isCard_0 4 rfl rfl)
theorem dX3_isCard_7 : decode cX3_isCard 7 = .ok (.iconst 1, 1) := dk_4 (dk_at dksX3_isCard_0 7 rfl rfl)
theorem dX3_isCard_8 : decode cX3_isCard 8 = .ok (.isub, 1) := dk_100 (dk_at dksX3_isCard_0 8 rfl rfl)
theorem dX3_isCard_9 : decode cX3_isCard 9 = .ok (.i2l, 1) := dk_133 (dk_at dksX3_isCard_0 9 rfl rfl)
theorem dX3_isCard_10 : decode cX3_isCard 10 = .ok (.invokestatic 162, 3) := dk_184 0 162 (dk_at dksX3_isCard_0 10 rfl rfl)
theorem dX3_isCard_13 : decode cX3_isCard 13 = .ok (.ireturn, 1) := dk_172 (dk_at dksX3_isCard_0 13 rfl rfl)
abbrev cX3_feed : ByteArray := prog_34_method_21_code
def yX3_feed : MethodName := ⟨RX3, "feed", "(I)I"⟩
def dkwX3_feed_2 : List UInt8 := [180, 0, 227, 172]
abbrev dktX3_feed_2 : List UInt8 := dkwX3_feed_2 ++ []
def dkwX3_feed_1 : List UInt8 := [16, 253, 172, 42, 180, 0, 34, 42, 180, 0, 227, 27, 79, 42, 89, 180, 0, 227, 4, 96, 181, 0, 227, 42]
abbrev dktX3_feed_1 : List UInt8 := dkwX3_feed_1 ++ dktX3_feed_2
def dkwX3_feed_0 : List UInt8 := [27, 133, 9, 20, 0, 225, 184, 0, 162, 154, 0, 5, 2, 172, 42, 180, 0, 227, 16, 120, 160, 0, 6]
abbrev dktX3_feed_0 : List UInt8 := dkwX3_feed_0 ++ dktX3_feed_1
theorem dksX3_feed_0 : cX3_feed.data.toList.drop 0 = dktX3_feed_0 := by decide +kernel
theorem dksX3_feed_1 : cX3_feed.data.toList.drop 23 = dktX3_feed_1 := dk_seg dksX3_feed_0 23 rfl rfl
theorem dksX3_feed_2 : cX3_feed.data.toList.drop 47 = dktX3_feed_2 := dk_seg dksX3_feed_1 24 rfl rfl
theorem dX3_feed_0 : decode cX3_feed 0 = .ok (.iload_n 1, 1) := dk_27 (dk_at dksX3_feed_0 0 rfl rfl)
theorem dX3_feed_1 : decode cX3_feed 1 = .ok (.i2l, 1) := dk_133 (dk_at dksX3_feed_0 1 rfl rfl)
theorem dX3_feed_2 : decode cX3_feed 2 = .ok (.lconst 0, 1) := dk_9 (dk_at dksX3_feed_0 2 rfl rfl)
theorem dX3_feed_3 : decode cX3_feed 3 = .ok (.ldc2_w 225, 3) := dk_20 0 225 (dk_at dksX3_feed_0 3 rfl rfl)
theorem dX3_feed_6 : decode cX3_feed 6 = .ok (.invokestatic 162, 3) := dk_184 0 162 (dk_at dksX3_feed_0 6 rfl rfl)
theorem dX3_feed_9 : decode cX3_feed 9 = .ok (.ifCond .ne 5, 3) := dk_154 0 5 (dk_at dksX3_feed_0 9 rfl rfl)
theorem dX3_feed_12 : decode cX3_feed 12 = .ok (.iconst (-1), 1) := dk_2 (dk_at dksX3_feed_0 12 rfl rfl)
theorem dX3_feed_13 : decode cX3_feed 13 = .ok (.ireturn, 1) := dk_172 (dk_at dksX3_feed_0 13 rfl rfl)
theorem dX3_feed_14 : decode cX3_feed 14 = .ok (.aload_n 0, 1) := dk_42 (dk_at dksX3_feed_0 14 rfl rfl)
theorem dX3_feed_15 : decode cX3_feed 15 = .ok (.getfield 227, 3) := dk_180 0 227 (dk_at dksX3_feed_0 15 rfl rfl)
theorem dX3_feed_18 : decode cX3_feed 18 = .ok (.bipush 120, 2) := dk_16 120 (dk_at dksX3_feed_0 18 rfl rfl)
theorem dX3_feed_20 : decode cX3_feed 20 = .ok (.if_icmp .ne 6, 3) := dk_160 0 6 (dk_at dksX3_feed_0 20 rfl rfl)
theorem dX3_feed_23 : decode cX3_feed 23 = .ok (.bipush (-3), 2) := dk_16 253 (dk_at dksX3_feed_1 0 rfl rfl)
theorem dX3_feed_25 : decode cX3_feed 25 = .ok (.ireturn, 1) := dk_172 (dk_at dksX3_feed_1 2 rfl rfl)
theorem dX3_feed_26 : decode cX3_feed 26 = .ok (.aload_n 0, 1) := dk_42 (dk_at dksX3_feed_1 3 rfl rfl)
theorem dX3_feed_27 : decode cX3_feed 27 = .ok (.getfield 34, 3) := dk_180 0 34 (dk_at dksX3_feed_1 4 rfl rfl)
theorem dX3_feed_30 : decode cX3_feed 30 = .ok (.aload_n 0, 1) := dk_42 (dk_at dksX3_feed_1 7 rfl rfl)
theorem dX3_feed_31 : decode cX3_feed 31 = .ok (.getfield 227, 3) := dk_180 0 227 (dk_at dksX3_feed_1 8 rfl rfl)
theorem dX3_feed_34 : decode cX3_feed 34 = .ok (.iload_n 1, 1) := dk_27 (dk_at dksX3_feed_1 11 rfl rfl)
theorem dX3_feed_35 : decode cX3_feed 35 = .ok (.iastore, 1) := dk_79 (dk_at dksX3_feed_1 12 rfl rfl)
theorem dX3_feed_36 : decode cX3_feed 36 = .ok (.aload_n 0, 1) := dk_42 (dk_at dksX3_feed_1 13 rfl rfl)
theorem dX3_feed_37 : decode cX3_feed 37 = .ok (.dup, 1) := dk_89 (dk_at dksX3_feed_1 14 rfl rfl)
theorem dX3_feed_38 : decode cX3_feed 38 = .ok (.getfield 227, 3) := dk_180 0 227 (dk_at dksX3_feed_1 15 rfl rfl)
theorem dX3_feed_41 : decode cX3_feed 41 = .ok (.iconst 1, 1) := dk_4 (dk_at dksX3_feed_1 18 rfl rfl)
theorem dX3_feed_42 : decode cX3_feed 42 = .ok (.iadd, 1) := dk_96 (dk_at dksX3_feed_1 19 rfl rfl)
theorem dX3_feed_43 : decode cX3_feed 43 = .ok (.putfield 227, 3) := dk_181 0 227 (dk_at dksX3_feed_1 20 rfl rfl)
theorem dX3_feed_46 : decode cX3_feed 46 = .ok (.aload_n 0, 1) := dk_42 (dk_at dksX3_feed_1 23 rfl rfl)
theorem dX3_feed_47 : decode cX3_feed 47 = .ok (.getfield 227, 3) := dk_180 0 227 (dk_at dksX3_feed_2 0 rfl rfl)
theorem dX3_feed_50 : decode cX3_feed 50 = .ok (.ireturn, 1) := dk_172 (dk_at dksX3_feed_2 3 rfl rfl)
abbrev cX3_law : ByteArray := prog_34_method_33_code
def yX3_law : MethodName := ⟨RX3, "law", "()I"⟩
def dkwX3_law_2 : List UInt8 := [180, 0, 34, 29, 46, 79, 132, 3, 1, 167, 255, 236, 42, 28, 181, 0, 143, 4, 172]
abbrev dktX3_law_2 : List UInt8 := dkwX3_law_2 ++ []
def dkwX3_law_1 : List UInt8 := [155, 0, 11, 16, 156, 42, 180, 0, 239, 100, 172, 3, 62, 29, 28, 162, 0, 21, 42, 180, 0, 37, 29, 42]
abbrev dktX3_law_1 : List UInt8 := dkwX3_law_1 ++ dktX3_law_2
def dkwX3_law_0 : List UInt8 := [42, 2, 42, 180, 0, 227, 182, 1, 21, 60, 42, 180, 0, 227, 61, 42, 3, 181, 0, 227, 42, 180, 0, 239]
abbrev dktX3_law_0 : List UInt8 := dkwX3_law_0 ++ dktX3_law_1
theorem dksX3_law_0 : cX3_law.data.toList.drop 0 = dktX3_law_0 := by decide +kernel
theorem dksX3_law_1 : cX3_law.data.toList.drop 24 = dktX3_law_1 := dk_seg dksX3_law_0 24 rfl rfl
theorem dksX3_law_2 : cX3_law.data.toList.drop 48 = dktX3_law_2 := dk_seg dksX3_law_1 24 rfl rfl
theorem dX3_law_0 : decode cX3_law 0 = .ok (.aload_n 0, 1) := dk_42 (dk_at dksX3_law_0 0 rfl rfl)
theorem dX3_law_1 : decode cX3_law 1 = .ok (.iconst (-1), 1) := dk_2 (dk_at dksX3_law_0 1 rfl rfl)
theorem dX3_law_2 : decode cX3_law 2 = .ok (.aload_n 0, 1) := dk_42 (dk_at dksX3_law_0 2 rfl rfl)
theorem dX3_law_3 : decode cX3_law 3 = .ok (.getfield 227, 3) := dk_180 0 227 (dk_at dksX3_law_0 3 rfl rfl)
theorem dX3_law_6 : decode cX3_law 6 = .ok (.invokevirtual 277, 3) := dk_182 1 21 (dk_at dksX3_law_0 6 rfl rfl)
theorem dX3_law_9 : decode cX3_law 9 = .ok (.istore_n 1, 1) := dk_60 (dk_at dksX3_law_0 9 rfl rfl)
theorem dX3_law_10 : decode cX3_law 10 = .ok (.aload_n 0, 1) := dk_42 (dk_at dksX3_law_0 10 rfl rfl)
theorem dX3_law_11 : decode cX3_law 11 = .ok (.getfield 227, 3) := dk_180 0 227 (dk_at dksX3_law_0 11 rfl rfl)
theorem dX3_law_14 : decode cX3_law 14 = .ok (.istore_n 2, 1) := dk_61 (dk_at dksX3_law_0 14 rfl rfl)
theorem dX3_law_15 : decode cX3_law 15 = .ok (.aload_n 0, 1) := dk_42 (dk_at dksX3_law_0 15 rfl rfl)
theorem dX3_law_16 : decode cX3_law 16 = .ok (.iconst 0, 1) := dk_3 (dk_at dksX3_law_0 16 rfl rfl)
theorem dX3_law_17 : decode cX3_law 17 = .ok (.putfield 227, 3) := dk_181 0 227 (dk_at dksX3_law_0 17 rfl rfl)
theorem dX3_law_20 : decode cX3_law 20 = .ok (.aload_n 0, 1) := dk_42 (dk_at dksX3_law_0 20 rfl rfl)
theorem dX3_law_21 : decode cX3_law 21 = .ok (.getfield 239, 3) := dk_180 0 239 (dk_at dksX3_law_0 21 rfl rfl)
theorem dX3_law_24 : decode cX3_law 24 = .ok (.ifCond .lt 11, 3) := dk_155 0 11 (dk_at dksX3_law_1 0 rfl rfl)
theorem dX3_law_27 : decode cX3_law 27 = .ok (.bipush (-100), 2) := dk_16 156 (dk_at dksX3_law_1 3 rfl rfl)
theorem dX3_law_29 : decode cX3_law 29 = .ok (.aload_n 0, 1) := dk_42 (dk_at dksX3_law_1 5 rfl rfl)
theorem dX3_law_30 : decode cX3_law 30 = .ok (.getfield 239, 3) := dk_180 0 239 (dk_at dksX3_law_1 6 rfl rfl)
theorem dX3_law_33 : decode cX3_law 33 = .ok (.isub, 1) := dk_100 (dk_at dksX3_law_1 9 rfl rfl)
theorem dX3_law_34 : decode cX3_law 34 = .ok (.ireturn, 1) := dk_172 (dk_at dksX3_law_1 10 rfl rfl)
theorem dX3_law_35 : decode cX3_law 35 = .ok (.iconst 0, 1) := dk_3 (dk_at dksX3_law_1 11 rfl rfl)
theorem dX3_law_36 : decode cX3_law 36 = .ok (.istore_n 3, 1) := dk_62 (dk_at dksX3_law_1 12 rfl rfl)
theorem dX3_law_37 : decode cX3_law 37 = .ok (.iload_n 3, 1) := dk_29 (dk_at dksX3_law_1 13 rfl rfl)
theorem dX3_law_38 : decode cX3_law 38 = .ok (.iload_n 2, 1) := dk_28 (dk_at dksX3_law_1 14 rfl rfl)
theorem dX3_law_39 : decode cX3_law 39 = .ok (.if_icmp .ge 21, 3) := dk_162 0 21 (dk_at dksX3_law_1 15 rfl rfl)
theorem dX3_law_42 : decode cX3_law 42 = .ok (.aload_n 0, 1) := dk_42 (dk_at dksX3_law_1 18 rfl rfl)
theorem dX3_law_43 : decode cX3_law 43 = .ok (.getfield 37, 3) := dk_180 0 37 (dk_at dksX3_law_1 19 rfl rfl)
theorem dX3_law_46 : decode cX3_law 46 = .ok (.iload_n 3, 1) := dk_29 (dk_at dksX3_law_1 22 rfl rfl)
theorem dX3_law_47 : decode cX3_law 47 = .ok (.aload_n 0, 1) := dk_42 (dk_at dksX3_law_1 23 rfl rfl)
theorem dX3_law_48 : decode cX3_law 48 = .ok (.getfield 34, 3) := dk_180 0 34 (dk_at dksX3_law_2 0 rfl rfl)
theorem dX3_law_51 : decode cX3_law 51 = .ok (.iload_n 3, 1) := dk_29 (dk_at dksX3_law_2 3 rfl rfl)
theorem dX3_law_52 : decode cX3_law 52 = .ok (.iaload, 1) := dk_46 (dk_at dksX3_law_2 4 rfl rfl)
theorem dX3_law_53 : decode cX3_law 53 = .ok (.iastore, 1) := dk_79 (dk_at dksX3_law_2 5 rfl rfl)
theorem dX3_law_54 : decode cX3_law 54 = .ok (.iinc 3 1, 3) := dk_132 3 1 (dk_at dksX3_law_2 6 rfl rfl)
theorem dX3_law_57 : decode cX3_law 57 = .ok (.goto (-20), 3) := dk_167 255 236 (dk_at dksX3_law_2 9 rfl rfl)
theorem dX3_law_60 : decode cX3_law 60 = .ok (.aload_n 0, 1) := dk_42 (dk_at dksX3_law_2 12 rfl rfl)
theorem dX3_law_61 : decode cX3_law 61 = .ok (.iload_n 2, 1) := dk_28 (dk_at dksX3_law_2 13 rfl rfl)
theorem dX3_law_62 : decode cX3_law 62 = .ok (.putfield 143, 3) := dk_181 0 143 (dk_at dksX3_law_2 14 rfl rfl)
theorem dX3_law_65 : decode cX3_law 65 = .ok (.iconst 1, 1) := dk_4 (dk_at dksX3_law_2 17 rfl rfl)
theorem dX3_law_66 : decode cX3_law 66 = .ok (.ireturn, 1) := dk_172 (dk_at dksX3_law_2 18 rfl rfl)
abbrev cX3_workOut : ByteArray := prog_34_method_32_code
def yX3_workOut : MethodName := ⟨RX3, "workOut", "(II)I"⟩
def dkwX3_workOut_5 : List UInt8 := [180, 0, 230, 42, 180, 0, 233, 162, 0, 8, 42, 182, 1, 11, 172, 21, 4, 172]
abbrev dktX3_workOut_5 : List UInt8 := dkwX3_workOut_5 ++ []
def dkwX3_workOut_4 : List UInt8 := [21, 6, 54, 4, 42, 16, 59, 182, 0, 249, 54, 5, 167, 255, 185, 42, 180, 0, 239, 156, 0, 19, 42]
abbrev dktX3_workOut_4 : List UInt8 := dkwX3_workOut_4 ++ dktX3_workOut_5
def dkwX3_workOut_3 : List UInt8 := [182, 1, 14, 54, 6, 42, 180, 0, 239, 156, 0, 18, 21, 7, 153, 0, 13, 29, 154, 0, 9, 4, 62]
abbrev dktX3_workOut_3 : List UInt8 := dkwX3_workOut_3 ++ dktX3_workOut_4
def dkwX3_workOut_2 : List UInt8 := [54, 7, 42, 16, 63, 182, 0, 249, 153, 0, 21, 21, 6, 153, 0, 7, 4, 167, 0, 4, 3, 54, 7, 42]
abbrev dktX3_workOut_2 : List UInt8 := dkwX3_workOut_2 ++ dktX3_workOut_3
def dkwX3_workOut_1 : List UInt8 := [181, 1, 8, 3, 62, 3, 54, 4, 4, 54, 5, 21, 5, 153, 0, 72, 42, 182, 1, 14, 54, 6, 4]
abbrev dktX3_workOut_1 : List UInt8 := dkwX3_workOut_1 ++ dktX3_workOut_2
def dkwX3_workOut_0 : List UInt8 := [42, 27, 181, 0, 236, 42, 3, 181, 0, 230, 42, 28, 181, 0, 233, 42, 2, 181, 0, 239, 42, 3]
abbrev dktX3_workOut_0 : List UInt8 := dkwX3_workOut_0 ++ dktX3_workOut_1
theorem dksX3_workOut_0 : cX3_workOut.data.toList.drop 0 = dktX3_workOut_0 := by decide +kernel
theorem dksX3_workOut_1 : cX3_workOut.data.toList.drop 22 = dktX3_workOut_1 := dk_seg dksX3_workOut_0 22 rfl rfl
theorem dksX3_workOut_2 : cX3_workOut.data.toList.drop 45 = dktX3_workOut_2 := dk_seg dksX3_workOut_1 23 rfl rfl
theorem dksX3_workOut_3 : cX3_workOut.data.toList.drop 69 = dktX3_workOut_3 := dk_seg dksX3_workOut_2 24 rfl rfl
theorem dksX3_workOut_4 : cX3_workOut.data.toList.drop 92 = dktX3_workOut_4 := dk_seg dksX3_workOut_3 23 rfl rfl
theorem dksX3_workOut_5 : cX3_workOut.data.toList.drop 115 = dktX3_workOut_5 := dk_seg dksX3_workOut_4 23 rfl rfl
theorem dX3_workOut_0 : decode cX3_workOut 0 = .ok (.aload_n 0, 1) := dk_42 (dk_at dksX3_workOut_0 0 rfl rfl)
theorem dX3_workOut_1 : decode cX3_workOut 1 = .ok (.iload_n 1, 1) := dk_27 (dk_at dksX3_workOut_0 1 rfl rfl)
theorem dX3_workOut_2 : decode cX3_workOut 2 = .ok (.putfield 236, 3) := dk_181 0 236 (dk_at dksX3_workOut_0 2 rfl rfl)
theorem dX3_workOut_5 : decode cX3_workOut 5 = .ok (.aload_n 0, 1) := dk_42 (dk_at dksX3_workOut_0 5 rfl rfl)
theorem dX3_workOut_6 : decode cX3_workOut 6 = .ok (.iconst 0, 1) := dk_3 (dk_at dksX3_workOut_0 6 rfl rfl)
theorem dX3_workOut_7 : decode cX3_workOut 7 = .ok (.putfield 230, 3) := dk_181 0 230 (dk_at dksX3_workOut_0 7 rfl rfl)
theorem dX3_workOut_10 : decode cX3_workOut 10 = .ok (.aload_n 0, 1) := dk_42 (dk_at dksX3_workOut_0 10 rfl rfl)
theorem dX3_workOut_11 : decode cX3_workOut 11 = .ok (.iload_n 2, 1) := dk_28 (dk_at dksX3_workOut_0 11 rfl rfl)
theorem dX3_workOut_12 : decode cX3_workOut 12 = .ok (.putfield 233, 3) := dk_181 0 233 (dk_at dksX3_workOut_0 12 rfl rfl)
theorem dX3_workOut_15 : decode cX3_workOut 15 = .ok (.aload_n 0, 1) := dk_42 (dk_at dksX3_workOut_0 15 rfl rfl)
theorem dX3_workOut_16 : decode cX3_workOut 16 = .ok (.iconst (-1), 1) := dk_2 (dk_at dksX3_workOut_0 16 rfl rfl)
theorem dX3_workOut_17 : decode cX3_workOut 17 = .ok (.putfield 239, 3) := dk_181 0 239 (dk_at dksX3_workOut_0 17 rfl rfl)
theorem dX3_workOut_20 : decode cX3_workOut 20 = .ok (.aload_n 0, 1) := dk_42 (dk_at dksX3_workOut_0 20 rfl rfl)
theorem dX3_workOut_21 : decode cX3_workOut 21 = .ok (.iconst 0, 1) := dk_3 (dk_at dksX3_workOut_0 21 rfl rfl)
theorem dX3_workOut_22 : decode cX3_workOut 22 = .ok (.putfield 264, 3) := dk_181 1 8 (dk_at dksX3_workOut_1 0 rfl rfl)
theorem dX3_workOut_25 : decode cX3_workOut 25 = .ok (.iconst 0, 1) := dk_3 (dk_at dksX3_workOut_1 3 rfl rfl)
theorem dX3_workOut_26 : decode cX3_workOut 26 = .ok (.istore_n 3, 1) := dk_62 (dk_at dksX3_workOut_1 4 rfl rfl)
theorem dX3_workOut_27 : decode cX3_workOut 27 = .ok (.iconst 0, 1) := dk_3 (dk_at dksX3_workOut_1 5 rfl rfl)
theorem dX3_workOut_28 : decode cX3_workOut 28 = .ok (.istore 4, 2) := dk_54 4 (dk_at dksX3_workOut_1 6 rfl rfl)
theorem dX3_workOut_30 : decode cX3_workOut 30 = .ok (.iconst 1, 1) := dk_4 (dk_at dksX3_workOut_1 8 rfl rfl)
theorem dX3_workOut_31 : decode cX3_workOut 31 = .ok (.istore 5, 2) := dk_54 5 (dk_at dksX3_workOut_1 9 rfl rfl)
theorem dX3_workOut_33 : decode cX3_workOut 33 = .ok (.iload 5, 2) := dk_21 5 (dk_at dksX3_workOut_1 11 rfl rfl)
theorem dX3_workOut_35 : decode cX3_workOut 35 = .ok (.ifCond .eq 72, 3) := dk_153 0 72 (dk_at dksX3_workOut_1 13 rfl rfl)
theorem dX3_workOut_38 : decode cX3_workOut 38 = .ok (.aload_n 0, 1) := dk_42 (dk_at dksX3_workOut_1 16 rfl rfl)
theorem dX3_workOut_39 : decode cX3_workOut 39 = .ok (.invokevirtual 270, 3) := dk_182 1 14 (dk_at dksX3_workOut_1 17 rfl rfl)
theorem dX3_workOut_42 : decode cX3_workOut 42 = .ok (.istore 6, 2) := dk_54 6 (dk_at dksX3_workOut_1 20 rfl rfl)
theorem dX3_workOut_44 : decode cX3_workOut 44 = .ok (.iconst 1, 1) := dk_4 (dk_at dksX3_workOut_1 22 rfl rfl)
theorem dX3_workOut_45 : decode cX3_workOut 45 = .ok (.istore 7, 2) := dk_54 7 (dk_at dksX3_workOut_2 0 rfl rfl)
theorem dX3_workOut_47 : decode cX3_workOut 47 = .ok (.aload_n 0, 1) := dk_42 (dk_at dksX3_workOut_2 2 rfl rfl)
theorem dX3_workOut_48 : decode cX3_workOut 48 = .ok (.bipush 63, 2) := dk_16 63 (dk_at dksX3_workOut_2 3 rfl rfl)
theorem dX3_workOut_50 : decode cX3_workOut 50 = .ok (.invokevirtual 249, 3) := dk_182 0 249 (dk_at dksX3_workOut_2 5 rfl rfl)
theorem dX3_workOut_53 : decode cX3_workOut 53 = .ok (.ifCond .eq 21, 3) := dk_153 0 21 (dk_at dksX3_workOut_2 8 rfl rfl)
theorem dX3_workOut_56 : decode cX3_workOut 56 = .ok (.iload 6, 2) := dk_21 6 (dk_at dksX3_workOut_2 11 rfl rfl)
theorem dX3_workOut_58 : decode cX3_workOut 58 = .ok (.ifCond .eq 7, 3) := dk_153 0 7 (dk_at dksX3_workOut_2 13 rfl rfl)
theorem dX3_workOut_61 : decode cX3_workOut 61 = .ok (.iconst 1, 1) := dk_4 (dk_at dksX3_workOut_2 16 rfl rfl)
theorem dX3_workOut_62 : decode cX3_workOut 62 = .ok (.goto 4, 3) := dk_167 0 4 (dk_at dksX3_workOut_2 17 rfl rfl)
theorem dX3_workOut_65 : decode cX3_workOut 65 = .ok (.iconst 0, 1) := dk_3 (dk_at dksX3_workOut_2 20 rfl rfl)
theorem dX3_workOut_66 : decode cX3_workOut 66 = .ok (.istore 7, 2) := dk_54 7 (dk_at dksX3_workOut_2 21 rfl rfl)
theorem dX3_workOut_68 : decode cX3_workOut 68 = .ok (.aload_n 0, 1) := dk_42 (dk_at dksX3_workOut_2 23 rfl rfl)
theorem dX3_workOut_69 : decode cX3_workOut 69 = .ok (.invokevirtual 270, 3) := dk_182 1 14 (dk_at dksX3_workOut_3 0 rfl rfl)
theorem dX3_workOut_72 : decode cX3_workOut 72 = .ok (.istore 6, 2) := dk_54 6 (dk_at dksX3_workOut_3 3 rfl rfl)
theorem dX3_workOut_74 : decode cX3_workOut 74 = .ok (.aload_n 0, 1) := dk_42 (dk_at dksX3_workOut_3 5 rfl rfl)
theorem dX3_workOut_75 : decode cX3_workOut 75 = .ok (.getfield 239, 3) := dk_180 0 239 (dk_at dksX3_workOut_3 6 rfl rfl)
theorem dX3_workOut_78 : decode cX3_workOut 78 = .ok (.ifCond .ge 18, 3) := dk_156 0 18 (dk_at dksX3_workOut_3 9 rfl rfl)
theorem dX3_workOut_81 : decode cX3_workOut 81 = .ok (.iload 7, 2) := dk_21 7 (dk_at dksX3_workOut_3 12 rfl rfl)
theorem dX3_workOut_83 : decode cX3_workOut 83 = .ok (.ifCond .eq 13, 3) := dk_153 0 13 (dk_at dksX3_workOut_3 14 rfl rfl)
theorem dX3_workOut_86 : decode cX3_workOut 86 = .ok (.iload_n 3, 1) := dk_29 (dk_at dksX3_workOut_3 17 rfl rfl)
theorem dX3_workOut_87 : decode cX3_workOut 87 = .ok (.ifCond .ne 9, 3) := dk_154 0 9 (dk_at dksX3_workOut_3 18 rfl rfl)
theorem dX3_workOut_90 : decode cX3_workOut 90 = .ok (.iconst 1, 1) := dk_4 (dk_at dksX3_workOut_3 21 rfl rfl)
theorem dX3_workOut_91 : decode cX3_workOut 91 = .ok (.istore_n 3, 1) := dk_62 (dk_at dksX3_workOut_3 22 rfl rfl)
theorem dX3_workOut_92 : decode cX3_workOut 92 = .ok (.iload 6, 2) := dk_21 6 (dk_at dksX3_workOut_4 0 rfl rfl)
theorem dX3_workOut_94 : decode cX3_workOut 94 = .ok (.istore 4, 2) := dk_54 4 (dk_at dksX3_workOut_4 2 rfl rfl)
theorem dX3_workOut_96 : decode cX3_workOut 96 = .ok (.aload_n 0, 1) := dk_42 (dk_at dksX3_workOut_4 4 rfl rfl)
theorem dX3_workOut_97 : decode cX3_workOut 97 = .ok (.bipush 59, 2) := dk_16 59 (dk_at dksX3_workOut_4 5 rfl rfl)
theorem dX3_workOut_99 : decode cX3_workOut 99 = .ok (.invokevirtual 249, 3) := dk_182 0 249 (dk_at dksX3_workOut_4 7 rfl rfl)
theorem dX3_workOut_102 : decode cX3_workOut 102 = .ok (.istore 5, 2) := dk_54 5 (dk_at dksX3_workOut_4 10 rfl rfl)
theorem dX3_workOut_104 : decode cX3_workOut 104 = .ok (.goto (-71), 3) := dk_167 255 185 (dk_at dksX3_workOut_4 12 rfl rfl)
theorem dX3_workOut_107 : decode cX3_workOut 107 = .ok (.aload_n 0, 1) := dk_42 (dk_at dksX3_workOut_4 15 rfl rfl)
theorem dX3_workOut_108 : decode cX3_workOut 108 = .ok (.getfield 239, 3) := dk_180 0 239 (dk_at dksX3_workOut_4 16 rfl rfl)
theorem dX3_workOut_111 : decode cX3_workOut 111 = .ok (.ifCond .ge 19, 3) := dk_156 0 19 (dk_at dksX3_workOut_4 19 rfl rfl)
theorem dX3_workOut_114 : decode cX3_workOut 114 = .ok (.aload_n 0, 1) := dk_42 (dk_at dksX3_workOut_4 22 rfl rfl)
theorem dX3_workOut_115 : decode cX3_workOut 115 = .ok (.getfield 230, 3) := dk_180 0 230 (dk_at dksX3_workOut_5 0 rfl rfl)
theorem dX3_workOut_118 : decode cX3_workOut 118 = .ok (.aload_n 0, 1) := dk_42 (dk_at dksX3_workOut_5 3 rfl rfl)
theorem dX3_workOut_119 : decode cX3_workOut 119 = .ok (.getfield 233, 3) := dk_180 0 233 (dk_at dksX3_workOut_5 4 rfl rfl)
theorem dX3_workOut_122 : decode cX3_workOut 122 = .ok (.if_icmp .ge 8, 3) := dk_162 0 8 (dk_at dksX3_workOut_5 7 rfl rfl)
theorem dX3_workOut_125 : decode cX3_workOut 125 = .ok (.aload_n 0, 1) := dk_42 (dk_at dksX3_workOut_5 10 rfl rfl)
theorem dX3_workOut_126 : decode cX3_workOut 126 = .ok (.invokevirtual 267, 3) := dk_182 1 11 (dk_at dksX3_workOut_5 11 rfl rfl)
theorem dX3_workOut_129 : decode cX3_workOut 129 = .ok (.ireturn, 1) := dk_172 (dk_at dksX3_workOut_5 14 rfl rfl)
theorem dX3_workOut_130 : decode cX3_workOut 130 = .ok (.iload 4, 2) := dk_21 4 (dk_at dksX3_workOut_5 15 rfl rfl)
theorem dX3_workOut_132 : decode cX3_workOut 132 = .ok (.ireturn, 1) := dk_172 (dk_at dksX3_workOut_5 17 rfl rfl)
abbrev cX3_either : ByteArray := prog_34_method_25_code
def yX3_either : MethodName := ⟨RX3, "either", "()I"⟩
def dkwX3_either_1 : List UInt8 := [153, 0, 7, 4, 167, 0, 4, 3, 60, 167, 255, 228, 27, 172]
abbrev dktX3_either_1 : List UInt8 := dkwX3_either_1 ++ []
def dkwX3_either_0 : List UInt8 := [42, 182, 0, 246, 60, 42, 16, 124, 182, 0, 249, 153, 0, 25, 42, 182, 0, 246, 61, 27, 154, 0, 7, 28]
abbrev dktX3_either_0 : List UInt8 := dkwX3_either_0 ++ dktX3_either_1
theorem dksX3_either_0 : cX3_either.data.toList.drop 0 = dktX3_either_0 := by decide +kernel
theorem dksX3_either_1 : cX3_either.data.toList.drop 24 = dktX3_either_1 := dk_seg dksX3_either_0 24 rfl rfl
theorem dX3_either_0 : decode cX3_either 0 = .ok (.aload_n 0, 1) := dk_42 (dk_at dksX3_either_0 0 rfl rfl)
theorem dX3_either_1 : decode cX3_either 1 = .ok (.invokevirtual 246, 3) := dk_182 0 246 (dk_at dksX3_either_0 1 rfl rfl)
theorem dX3_either_4 : decode cX3_either 4 = .ok (.istore_n 1, 1) := dk_60 (dk_at dksX3_either_0 4 rfl rfl)
theorem dX3_either_5 : decode cX3_either 5 = .ok (.aload_n 0, 1) := dk_42 (dk_at dksX3_either_0 5 rfl rfl)
theorem dX3_either_6 : decode cX3_either 6 = .ok (.bipush 124, 2) := dk_16 124 (dk_at dksX3_either_0 6 rfl rfl)
theorem dX3_either_8 : decode cX3_either 8 = .ok (.invokevirtual 249, 3) := dk_182 0 249 (dk_at dksX3_either_0 8 rfl rfl)
theorem dX3_either_11 : decode cX3_either 11 = .ok (.ifCond .eq 25, 3) := dk_153 0 25 (dk_at dksX3_either_0 11 rfl rfl)
theorem dX3_either_14 : decode cX3_either 14 = .ok (.aload_n 0, 1) := dk_42 (dk_at dksX3_either_0 14 rfl rfl)
theorem dX3_either_15 : decode cX3_either 15 = .ok (.invokevirtual 246, 3) := dk_182 0 246 (dk_at dksX3_either_0 15 rfl rfl)
theorem dX3_either_18 : decode cX3_either 18 = .ok (.istore_n 2, 1) := dk_61 (dk_at dksX3_either_0 18 rfl rfl)
theorem dX3_either_19 : decode cX3_either 19 = .ok (.iload_n 1, 1) := dk_27 (dk_at dksX3_either_0 19 rfl rfl)
theorem dX3_either_20 : decode cX3_either 20 = .ok (.ifCond .ne 7, 3) := dk_154 0 7 (dk_at dksX3_either_0 20 rfl rfl)
theorem dX3_either_23 : decode cX3_either 23 = .ok (.iload_n 2, 1) := dk_28 (dk_at dksX3_either_0 23 rfl rfl)
theorem dX3_either_24 : decode cX3_either 24 = .ok (.ifCond .eq 7, 3) := dk_153 0 7 (dk_at dksX3_either_1 0 rfl rfl)
theorem dX3_either_27 : decode cX3_either 27 = .ok (.iconst 1, 1) := dk_4 (dk_at dksX3_either_1 3 rfl rfl)
theorem dX3_either_28 : decode cX3_either 28 = .ok (.goto 4, 3) := dk_167 0 4 (dk_at dksX3_either_1 4 rfl rfl)
theorem dX3_either_31 : decode cX3_either 31 = .ok (.iconst 0, 1) := dk_3 (dk_at dksX3_either_1 7 rfl rfl)
theorem dX3_either_32 : decode cX3_either 32 = .ok (.istore_n 1, 1) := dk_60 (dk_at dksX3_either_1 8 rfl rfl)
theorem dX3_either_33 : decode cX3_either 33 = .ok (.goto (-28), 3) := dk_167 255 228 (dk_at dksX3_either_1 9 rfl rfl)
theorem dX3_either_36 : decode cX3_either 36 = .ok (.iload_n 1, 1) := dk_27 (dk_at dksX3_either_1 12 rfl rfl)
theorem dX3_either_37 : decode cX3_either 37 = .ok (.ireturn, 1) := dk_172 (dk_at dksX3_either_1 13 rfl rfl)
abbrev cX3_both : ByteArray := prog_34_method_26_code
def yX3_both : MethodName := ⟨RX3, "both", "()I"⟩
def dkwX3_both_1 : List UInt8 := [153, 0, 7, 4, 167, 0, 4, 3, 60, 167, 255, 228, 27, 172]
abbrev dktX3_both_1 : List UInt8 := dkwX3_both_1 ++ []
def dkwX3_both_0 : List UInt8 := [42, 182, 0, 252, 60, 42, 16, 38, 182, 0, 249, 153, 0, 25, 42, 182, 0, 252, 61, 27, 153, 0, 11, 28]
abbrev dktX3_both_0 : List UInt8 := dkwX3_both_0 ++ dktX3_both_1
theorem dksX3_both_0 : cX3_both.data.toList.drop 0 = dktX3_both_0 := by decide +kernel
theorem dksX3_both_1 : cX3_both.data.toList.drop 24 = dktX3_both_1 := dk_seg dksX3_both_0 24 rfl rfl
theorem dX3_both_0 : decode cX3_both 0 = .ok (.aload_n 0, 1) := dk_42 (dk_at dksX3_both_0 0 rfl rfl)
theorem dX3_both_1 : decode cX3_both 1 = .ok (.invokevirtual 252, 3) := dk_182 0 252 (dk_at dksX3_both_0 1 rfl rfl)
theorem dX3_both_4 : decode cX3_both 4 = .ok (.istore_n 1, 1) := dk_60 (dk_at dksX3_both_0 4 rfl rfl)
theorem dX3_both_5 : decode cX3_both 5 = .ok (.aload_n 0, 1) := dk_42 (dk_at dksX3_both_0 5 rfl rfl)
theorem dX3_both_6 : decode cX3_both 6 = .ok (.bipush 38, 2) := dk_16 38 (dk_at dksX3_both_0 6 rfl rfl)
theorem dX3_both_8 : decode cX3_both 8 = .ok (.invokevirtual 249, 3) := dk_182 0 249 (dk_at dksX3_both_0 8 rfl rfl)
theorem dX3_both_11 : decode cX3_both 11 = .ok (.ifCond .eq 25, 3) := dk_153 0 25 (dk_at dksX3_both_0 11 rfl rfl)
theorem dX3_both_14 : decode cX3_both 14 = .ok (.aload_n 0, 1) := dk_42 (dk_at dksX3_both_0 14 rfl rfl)
theorem dX3_both_15 : decode cX3_both 15 = .ok (.invokevirtual 252, 3) := dk_182 0 252 (dk_at dksX3_both_0 15 rfl rfl)
theorem dX3_both_18 : decode cX3_both 18 = .ok (.istore_n 2, 1) := dk_61 (dk_at dksX3_both_0 18 rfl rfl)
theorem dX3_both_19 : decode cX3_both 19 = .ok (.iload_n 1, 1) := dk_27 (dk_at dksX3_both_0 19 rfl rfl)
theorem dX3_both_20 : decode cX3_both 20 = .ok (.ifCond .eq 11, 3) := dk_153 0 11 (dk_at dksX3_both_0 20 rfl rfl)
theorem dX3_both_23 : decode cX3_both 23 = .ok (.iload_n 2, 1) := dk_28 (dk_at dksX3_both_0 23 rfl rfl)
theorem dX3_both_24 : decode cX3_both 24 = .ok (.ifCond .eq 7, 3) := dk_153 0 7 (dk_at dksX3_both_1 0 rfl rfl)
theorem dX3_both_27 : decode cX3_both 27 = .ok (.iconst 1, 1) := dk_4 (dk_at dksX3_both_1 3 rfl rfl)
theorem dX3_both_28 : decode cX3_both 28 = .ok (.goto 4, 3) := dk_167 0 4 (dk_at dksX3_both_1 4 rfl rfl)
theorem dX3_both_31 : decode cX3_both 31 = .ok (.iconst 0, 1) := dk_3 (dk_at dksX3_both_1 7 rfl rfl)
theorem dX3_both_32 : decode cX3_both 32 = .ok (.istore_n 1, 1) := dk_60 (dk_at dksX3_both_1 8 rfl rfl)
theorem dX3_both_33 : decode cX3_both 33 = .ok (.goto (-28), 3) := dk_167 255 228 (dk_at dksX3_both_1 9 rfl rfl)
theorem dX3_both_36 : decode cX3_both 36 = .ok (.iload_n 1, 1) := dk_27 (dk_at dksX3_both_1 12 rfl rfl)
theorem dX3_both_37 : decode cX3_both 37 = .ok (.ireturn, 1) := dk_172 (dk_at dksX3_both_1 13 rfl rfl)
abbrev cX3_compared : ByteArray := prog_34_method_27_code
def yX3_compared : MethodName := ⟨RX3, "compared", "()I"⟩
def dkwX3_compared_3 : List UInt8 := [27, 29, 160, 0, 15, 167, 0, 8, 27, 29, 164, 0, 7, 4, 167, 0, 4, 3, 172]
abbrev dktX3_compared_3 : List UInt8 := dkwX3_compared_3 ++ []
def dkwX3_compared_2 : List UInt8 := [182, 0, 255, 62, 28, 16, 60, 160, 0, 11, 27, 29, 162, 0, 29, 167, 0, 22, 28, 16, 61, 160, 0, 11]
abbrev dktX3_compared_2 : List UInt8 := dkwX3_compared_2 ++ dktX3_compared_3
def dkwX3_compared_1 : List UInt8 := [16, 61, 159, 0, 11, 28, 16, 62, 159, 0, 5, 27, 172, 42, 89, 180, 0, 230, 4, 96, 181, 0, 230, 42]
abbrev dktX3_compared_1 : List UInt8 := dkwX3_compared_1 ++ dktX3_compared_2
def dkwX3_compared_0 : List UInt8 := [42, 182, 0, 255, 60, 42, 182, 0, 242, 61, 42, 180, 0, 239, 156, 0, 21, 28, 16, 60, 159, 0, 17, 28]
abbrev dktX3_compared_0 : List UInt8 := dkwX3_compared_0 ++ dktX3_compared_1
theorem dksX3_compared_0 : cX3_compared.data.toList.drop 0 = dktX3_compared_0 := by decide +kernel
theorem dksX3_compared_1 : cX3_compared.data.toList.drop 24 = dktX3_compared_1 := dk_seg dksX3_compared_0 24 rfl rfl
theorem dksX3_compared_2 : cX3_compared.data.toList.drop 48 = dktX3_compared_2 := dk_seg dksX3_compared_1 24 rfl rfl
theorem dksX3_compared_3 : cX3_compared.data.toList.drop 72 = dktX3_compared_3 := dk_seg dksX3_compared_2 24 rfl rfl
theorem dX3_compared_0 : decode cX3_compared 0 = .ok (.aload_n 0, 1) := dk_42 (dk_at dksX3_compared_0 0 rfl rfl)
theorem dX3_compared_1 : decode cX3_compared 1 = .ok (.invokevirtual 255, 3) := dk_182 0 255 (dk_at dksX3_compared_0 1 rfl rfl)
theorem dX3_compared_4 : decode cX3_compared 4 = .ok (.istore_n 1, 1) := dk_60 (dk_at dksX3_compared_0 4 rfl rfl)
theorem dX3_compared_5 : decode cX3_compared 5 = .ok (.aload_n 0, 1) := dk_42 (dk_at dksX3_compared_0 5 rfl rfl)
theorem dX3_compared_6 : decode cX3_compared 6 = .ok (.invokevirtual 242, 3) := dk_182 0 242 (dk_at dksX3_compared_0 6 rfl rfl)
theorem dX3_compared_9 : decode cX3_compared 9 = .ok (.istore_n 2, 1) := dk_61 (dk_at dksX3_compared_0 9 rfl rfl)
theorem dX3_compared_10 : decode cX3_compared 10 = .ok (.aload_n 0, 1) := dk_42 (dk_at dksX3_compared_0 10 rfl rfl)
theorem dX3_compared_11 : decode cX3_compared 11 = .ok (.getfield 239, 3) := dk_180 0 239 (dk_at dksX3_compared_0 11 rfl rfl)
theorem dX3_compared_14 : decode cX3_compared 14 = .ok (.ifCond .ge 21, 3) := dk_156 0 21 (dk_at dksX3_compared_0 14 rfl rfl)
theorem dX3_compared_17 : decode cX3_compared 17 = .ok (.iload_n 2, 1) := dk_28 (dk_at dksX3_compared_0 17 rfl rfl)
theorem dX3_compared_18 : decode cX3_compared 18 = .ok (.bipush 60, 2) := dk_16 60 (dk_at dksX3_compared_0 18 rfl rfl)
theorem dX3_compared_20 : decode cX3_compared 20 = .ok (.if_icmp .eq 17, 3) := dk_159 0 17 (dk_at dksX3_compared_0 20 rfl rfl)
theorem dX3_compared_23 : decode cX3_compared 23 = .ok (.iload_n 2, 1) := dk_28 (dk_at dksX3_compared_0 23 rfl rfl)
theorem dX3_compared_24 : decode cX3_compared 24 = .ok (.bipush 61, 2) := dk_16 61 (dk_at dksX3_compared_1 0 rfl rfl)
theorem dX3_compared_26 : decode cX3_compared 26 = .ok (.if_icmp .eq 11, 3) := dk_159 0 11 (dk_at dksX3_compared_1 2 rfl rfl)
theorem dX3_compared_29 : decode cX3_compared 29 = .ok (.iload_n 2, 1) := dk_28 (dk_at dksX3_compared_1 5 rfl rfl)
theorem dX3_compared_30 : decode cX3_compared 30 = .ok (.bipush 62, 2) := dk_16 62 (dk_at dksX3_compared_1 6 rfl rfl)
theorem dX3_compared_32 : decode cX3_compared 32 = .ok (.if_icmp .eq 5, 3) := dk_159 0 5 (dk_at dksX3_compared_1 8 rfl rfl)
theorem dX3_compared_35 : decode cX3_compared 35 = .ok (.iload_n 1, 1) := dk_27 (dk_at dksX3_compared_1 11 rfl rfl)
theorem dX3_compared_36 : decode cX3_compared 36 = .ok (.ireturn, 1) := dk_172 (dk_at dksX3_compared_1 12 rfl rfl)
theorem dX3_compared_37 : decode cX3_compared 37 = .ok (.aload_n 0, 1) := dk_42 (dk_at dksX3_compared_1 13 rfl rfl)
theorem dX3_compared_38 : decode cX3_compared 38 = .ok (.dup, 1) := dk_89 (dk_at dksX3_compared_1 14 rfl rfl)
theorem dX3_compared_39 : decode cX3_compared 39 = .ok (.getfield 230, 3) := dk_180 0 230 (dk_at dksX3_compared_1 15 rfl rfl)
theorem dX3_compared_42 : decode cX3_compared 42 = .ok (.iconst 1, 1) := dk_4 (dk_at dksX3_compared_1 18 rfl rfl)
theorem dX3_compared_43 : decode cX3_compared 43 = .ok (.iadd, 1) := dk_96 (dk_at dksX3_compared_1 19 rfl rfl)
theorem dX3_compared_44 : decode cX3_compared 44 = .ok (.putfield 230, 3) := dk_181 0 230 (dk_at dksX3_compared_1 20 rfl rfl)
theorem dX3_compared_47 : decode cX3_compared 47 = .ok (.aload_n 0, 1) := dk_42 (dk_at dksX3_compared_1 23 rfl rfl)
theorem dX3_compared_48 : decode cX3_compared 48 = .ok (.invokevirtual 255, 3) := dk_182 0 255 (dk_at dksX3_compared_2 0 rfl rfl)
theorem dX3_compared_51 : decode cX3_compared 51 = .ok (.istore_n 3, 1) := dk_62 (dk_at dksX3_compared_2 3 rfl rfl)
theorem dX3_compared_52 : decode cX3_compared 52 = .ok (.iload_n 2, 1) := dk_28 (dk_at dksX3_compared_2 4 rfl rfl)
theorem dX3_compared_53 : decode cX3_compared 53 = .ok (.bipush 60, 2) := dk_16 60 (dk_at dksX3_compared_2 5 rfl rfl)
theorem dX3_compared_55 : decode cX3_compared 55 = .ok (.if_icmp .ne 11, 3) := dk_160 0 11 (dk_at dksX3_compared_2 7 rfl rfl)
theorem dX3_compared_58 : decode cX3_compared 58 = .ok (.iload_n 1, 1) := dk_27 (dk_at dksX3_compared_2 10 rfl rfl)
theorem dX3_compared_59 : decode cX3_compared 59 = .ok (.iload_n 3, 1) := dk_29 (dk_at dksX3_compared_2 11 rfl rfl)
theorem dX3_compared_60 : decode cX3_compared 60 = .ok (.if_icmp .ge 29, 3) := dk_162 0 29 (dk_at dksX3_compared_2 12 rfl rfl)
theorem dX3_compared_63 : decode cX3_compared 63 = .ok (.goto 22, 3) := dk_167 0 22 (dk_at dksX3_compared_2 15 rfl rfl)
theorem dX3_compared_66 : decode cX3_compared 66 = .ok (.iload_n 2, 1) := dk_28 (dk_at dksX3_compared_2 18 rfl rfl)
theorem dX3_compared_67 : decode cX3_compared 67 = .ok (.bipush 61, 2) := dk_16 61 (dk_at dksX3_compared_2 19 rfl rfl)
theorem dX3_compared_69 : decode cX3_compared 69 = .ok (.if_icmp .ne 11, 3) := dk_160 0 11 (dk_at dksX3_compared_2 21 rfl rfl)
theorem dX3_compared_72 : decode cX3_compared 72 = .ok (.iload_n 1, 1) := dk_27 (dk_at dksX3_compared_3 0 rfl rfl)
theorem dX3_compared_73 : decode cX3_compared 73 = .ok (.iload_n 3, 1) := dk_29 (dk_at dksX3_compared_3 1 rfl rfl)
theorem dX3_compared_74 : decode cX3_compared 74 = .ok (.if_icmp .ne 15, 3) := dk_160 0 15 (dk_at dksX3_compared_3 2 rfl rfl)
theorem dX3_compared_77 : decode cX3_compared 77 = .ok (.goto 8, 3) := dk_167 0 8 (dk_at dksX3_compared_3 5 rfl rfl)
theorem dX3_compared_80 : decode cX3_compared 80 = .ok (.iload_n 1, 1) := dk_27 (dk_at dksX3_compared_3 8 rfl rfl)
theorem dX3_compared_81 : decode cX3_compared 81 = .ok (.iload_n 3, 1) := dk_29 (dk_at dksX3_compared_3 9 rfl rfl)
theorem dX3_compared_82 : decode cX3_compared 82 = .ok (.if_icmp .le 7, 3) := dk_164 0 7 (dk_at dksX3_compared_3 10 rfl rfl)
theorem dX3_compared_85 : decode cX3_compared 85 = .ok (.iconst 1, 1) := dk_4 (dk_at dksX3_compared_3 13 rfl rfl)
theorem dX3_compared_86 : decode cX3_compared 86 = .ok (.goto 4, 3) := dk_167 0 4 (dk_at dksX3_compared_3 14 rfl rfl)
theorem dX3_compared_89 : decode cX3_compared 89 = .ok (.iconst 0, 1) := dk_3 (dk_at dksX3_compared_3 17 rfl rfl)
theorem dX3_compared_90 : decode cX3_compared 90 = .ok (.ireturn, 1) := dk_172 (dk_at dksX3_compared_3 18 rfl rfl)
abbrev cX3_sums : ByteArray := prog_34_method_28_code
def yX3_sums : MethodName := ⟨RX3, "sums", "()I"⟩
def dkwX3_sums_3 : List UInt8 := [27, 29, 100, 60, 167, 255, 187, 27, 172]
abbrev dktX3_sums_3 : List UInt8 := dkwX3_sums_3 ++ []
def dkwX3_sums_2 : List UInt8 := [89, 180, 0, 230, 4, 96, 181, 0, 230, 42, 182, 1, 2, 62, 28, 153, 0, 9, 27, 29, 96, 167, 0, 6]
abbrev dktX3_sums_2 : List UInt8 := dkwX3_sums_2 ++ dktX3_sums_3
def dkwX3_sums_1 : List UInt8 := [182, 0, 242, 16, 45, 160, 0, 50, 42, 182, 0, 242, 16, 43, 160, 0, 7, 4, 167, 0, 4, 3, 61, 42]
abbrev dktX3_sums_1 : List UInt8 := dkwX3_sums_1 ++ dktX3_sums_2
def dkwX3_sums_0 : List UInt8 := [42, 182, 1, 2, 60, 42, 180, 0, 239, 156, 0, 68, 42, 182, 0, 242, 16, 43, 159, 0, 12, 42]
abbrev dktX3_sums_0 : List UInt8 := dkwX3_sums_0 ++ dktX3_sums_1
theorem dksX3_sums_0 : cX3_sums.data.toList.drop 0 = dktX3_sums_0 := by decide +kernel
theorem dksX3_sums_1 : cX3_sums.data.toList.drop 22 = dktX3_sums_1 := dk_seg dksX3_sums_0 22 rfl rfl
theorem dksX3_sums_2 : cX3_sums.data.toList.drop 46 = dktX3_sums_2 := dk_seg dksX3_sums_1 24 rfl rfl
theorem dksX3_sums_3 : cX3_sums.data.toList.drop 70 = dktX3_sums_3 := dk_seg dksX3_sums_2 24 rfl rfl
theorem dX3_sums_0 : decode cX3_sums 0 = .ok (.aload_n 0, 1) := dk_42 (dk_at dksX3_sums_0 0 rfl rfl)
theorem dX3_sums_1 : decode cX3_sums 1 = .ok (.invokevirtual 258, 3) := dk_182 1 2 (dk_at dksX3_sums_0 1 rfl rfl)
theorem dX3_sums_4 : decode cX3_sums 4 = .ok (.istore_n 1, 1) := dk_60 (dk_at dksX3_sums_0 4 rfl rfl)
theorem dX3_sums_5 : decode cX3_sums 5 = .ok (.aload_n 0, 1) := dk_42 (dk_at dksX3_sums_0 5 rfl rfl)
theorem dX3_sums_6 : decode cX3_sums 6 = .ok (.getfield 239, 3) := dk_180 0 239 (dk_at dksX3_sums_0 6 rfl rfl)
theorem dX3_sums_9 : decode cX3_sums 9 = .ok (.ifCond .ge 68, 3) := dk_156 0 68 (dk_at dksX3_sums_0 9 rfl rfl)
theorem dX3_sums_12 : decode cX3_sums 12 = .ok (.aload_n 0, 1) := dk_42 (dk_at dksX3_sums_0 12 rfl rfl)
theorem dX3_sums_13 : decode cX3_sums 13 = .ok (.invokevirtual 242, 3) := dk_182 0 242 (dk_at dksX3_sums_0 13 rfl rfl)
theorem dX3_sums_16 : decode cX3_sums 16 = .ok (.bipush 43, 2) := dk_16 43 (dk_at dksX3_sums_0 16 rfl rfl)
theorem dX3_sums_18 : decode cX3_sums 18 = .ok (.if_icmp .eq 12, 3) := dk_159 0 12 (dk_at dksX3_sums_0 18 rfl rfl)
theorem dX3_sums_21 : decode cX3_sums 21 = .ok (.aload_n 0, 1) := dk_42 (dk_at dksX3_sums_0 21 rfl rfl)
theorem dX3_sums_22 : decode cX3_sums 22 = .ok (.invokevirtual 242, 3) := dk_182 0 242 (dk_at dksX3_sums_1 0 rfl rfl)
theorem dX3_sums_25 : decode cX3_sums 25 = .ok (.bipush 45, 2) := dk_16 45 (dk_at dksX3_sums_1 3 rfl rfl)
theorem dX3_sums_27 : decode cX3_sums 27 = .ok (.if_icmp .ne 50, 3) := dk_160 0 50 (dk_at dksX3_sums_1 5 rfl rfl)
theorem dX3_sums_30 : decode cX3_sums 30 = .ok (.aload_n 0, 1) := dk_42 (dk_at dksX3_sums_1 8 rfl rfl)
theorem dX3_sums_31 : decode cX3_sums 31 = .ok (.invokevirtual 242, 3) := dk_182 0 242 (dk_at dksX3_sums_1 9 rfl rfl)
theorem dX3_sums_34 : decode cX3_sums 34 = .ok (.bipush 43, 2) := dk_16 43 (dk_at dksX3_sums_1 12 rfl rfl)
theorem dX3_sums_36 : decode cX3_sums 36 = .ok (.if_icmp .ne 7, 3) := dk_160 0 7 (dk_at dksX3_sums_1 14 rfl rfl)
theorem dX3_sums_39 : decode cX3_sums 39 = .ok (.iconst 1, 1) := dk_4 (dk_at dksX3_sums_1 17 rfl rfl)
theorem dX3_sums_40 : decode cX3_sums 40 = .ok (.goto 4, 3) := dk_167 0 4 (dk_at dksX3_sums_1 18 rfl rfl)
theorem dX3_sums_43 : decode cX3_sums 43 = .ok (.iconst 0, 1) := dk_3 (dk_at dksX3_sums_1 21 rfl rfl)
theorem dX3_sums_44 : decode cX3_sums 44 = .ok (.istore_n 2, 1) := dk_61 (dk_at dksX3_sums_1 22 rfl rfl)
theorem dX3_sums_45 : decode cX3_sums 45 = .ok (.aload_n 0, 1) := dk_42 (dk_at dksX3_sums_1 23 rfl rfl)
theorem dX3_sums_46 : decode cX3_sums 46 = .ok (.dup, 1) := dk_89 (dk_at dksX3_sums_2 0 rfl rfl)
theorem dX3_sums_47 : decode cX3_sums 47 = .ok (.getfield 230, 3) := dk_180 0 230 (dk_at dksX3_sums_2 1 rfl rfl)
theorem dX3_sums_50 : decode cX3_sums 50 = .ok (.iconst 1, 1) := dk_4 (dk_at dksX3_sums_2 4 rfl rfl)
theorem dX3_sums_51 : decode cX3_sums 51 = .ok (.iadd, 1) := dk_96 (dk_at dksX3_sums_2 5 rfl rfl)
theorem dX3_sums_52 : decode cX3_sums 52 = .ok (.putfield 230, 3) := dk_181 0 230 (dk_at dksX3_sums_2 6 rfl rfl)
theorem dX3_sums_55 : decode cX3_sums 55 = .ok (.aload_n 0, 1) := dk_42 (dk_at dksX3_sums_2 9 rfl rfl)
theorem dX3_sums_56 : decode cX3_sums 56 = .ok (.invokevirtual 258, 3) := dk_182 1 2 (dk_at dksX3_sums_2 10 rfl rfl)
theorem dX3_sums_59 : decode cX3_sums 59 = .ok (.istore_n 3, 1) := dk_62 (dk_at dksX3_sums_2 13 rfl rfl)
theorem dX3_sums_60 : decode cX3_sums 60 = .ok (.iload_n 2, 1) := dk_28 (dk_at dksX3_sums_2 14 rfl rfl)
theorem dX3_sums_61 : decode cX3_sums 61 = .ok (.ifCond .eq 9, 3) := dk_153 0 9 (dk_at dksX3_sums_2 15 rfl rfl)
theorem dX3_sums_64 : decode cX3_sums 64 = .ok (.iload_n 1, 1) := dk_27 (dk_at dksX3_sums_2 18 rfl rfl)
theorem dX3_sums_65 : decode cX3_sums 65 = .ok (.iload_n 3, 1) := dk_29 (dk_at dksX3_sums_2 19 rfl rfl)
theorem dX3_sums_66 : decode cX3_sums 66 = .ok (.iadd, 1) := dk_96 (dk_at dksX3_sums_2 20 rfl rfl)
theorem dX3_sums_67 : decode cX3_sums 67 = .ok (.goto 6, 3) := dk_167 0 6 (dk_at dksX3_sums_2 21 rfl rfl)
theorem dX3_sums_70 : decode cX3_sums 70 = .ok (.iload_n 1, 1) := dk_27 (dk_at dksX3_sums_3 0 rfl rfl)
theorem dX3_sums_71 : decode cX3_sums 71 = .ok (.iload_n 3, 1) := dk_29 (dk_at dksX3_sums_3 1 rfl rfl)
theorem dX3_sums_72 : decode cX3_sums 72 = .ok (.isub, 1) := dk_100 (dk_at dksX3_sums_3 2 rfl rfl)
theorem dX3_sums_73 : decode cX3_sums 73 = .ok (.istore_n 1, 1) := dk_60 (dk_at dksX3_sums_3 3 rfl rfl)
theorem dX3_sums_74 : decode cX3_sums 74 = .ok (.goto (-69), 3) := dk_167 255 187 (dk_at dksX3_sums_3 4 rfl rfl)
theorem dX3_sums_77 : decode cX3_sums 77 = .ok (.iload_n 1, 1) := dk_27 (dk_at dksX3_sums_3 7 rfl rfl)
theorem dX3_sums_78 : decode cX3_sums 78 = .ok (.ireturn, 1) := dk_172 (dk_at dksX3_sums_3 8 rfl rfl)
abbrev cX3_product : ByteArray := prog_34_method_29_code
def yX3_product : MethodName := ⟨RX3, "product", "()I"⟩
def dkwX3_product_4 : List UInt8 := [27, 172]
abbrev dktX3_product_4 : List UInt8 := dkwX3_product_4 ++ []
def dkwX3_product_3 : List UInt8 := [28, 16, 47, 160, 0, 9, 27, 29, 108, 167, 0, 6, 27, 29, 112, 60, 42, 182, 0, 242, 61, 167, 255, 175]
abbrev dktX3_product_3 : List UInt8 := dkwX3_product_3 ++ dktX3_product_4
def dkwX3_product_2 : List UInt8 := [182, 1, 5, 62, 28, 16, 42, 160, 0, 9, 27, 29, 104, 167, 0, 26, 29, 154, 0, 7, 3, 167, 0, 18]
abbrev dktX3_product_2 : List UInt8 := dkwX3_product_2 ++ dktX3_product_3
def dkwX3_product_1 : List UInt8 := [16, 47, 159, 0, 9, 28, 16, 37, 160, 0, 62, 42, 89, 180, 0, 230, 4, 96, 181, 0, 230, 42]
abbrev dktX3_product_1 : List UInt8 := dkwX3_product_1 ++ dktX3_product_2
def dkwX3_product_0 : List UInt8 := [42, 182, 1, 5, 60, 42, 182, 0, 242, 61, 42, 180, 0, 239, 156, 0, 80, 28, 16, 42, 159, 0, 15, 28]
abbrev dktX3_product_0 : List UInt8 := dkwX3_product_0 ++ dktX3_product_1
theorem dksX3_product_0 : cX3_product.data.toList.drop 0 = dktX3_product_0 := by decide +kernel
theorem dksX3_product_1 : cX3_product.data.toList.drop 24 = dktX3_product_1 := dk_seg dksX3_product_0 24 rfl rfl
theorem dksX3_product_2 : cX3_product.data.toList.drop 46 = dktX3_product_2 := dk_seg dksX3_product_1 22 rfl rfl
theorem dksX3_product_3 : cX3_product.data.toList.drop 70 = dktX3_product_3 := dk_seg dksX3_product_2 24 rfl rfl
theorem dksX3_product_4 : cX3_product.data.toList.drop 94 = dktX3_product_4 := dk_seg dksX3_product_3 24 rfl rfl
theorem dX3_product_0 : decode cX3_product 0 = .ok (.aload_n 0, 1) := dk_42 (dk_at dksX3_product_0 0 rfl rfl)
theorem dX3_product_1 : decode cX3_product 1 = .ok (.invokevirtual 261, 3) := dk_182 1 5 (dk_at dksX3_product_0 1 rfl rfl)
theorem dX3_product_4 : decode cX3_product 4 = .ok (.istore_n 1, 1) := dk_60 (dk_at dksX3_product_0 4 rfl rfl)
theorem dX3_product_5 : decode cX3_product 5 = .ok (.aload_n 0, 1) := dk_42 (dk_at dksX3_product_0 5 rfl rfl)
theorem dX3_product_6 : decode cX3_product 6 = .ok (.invokevirtual 242, 3) := dk_182 0 242 (dk_at dksX3_product_0 6 rfl rfl)
theorem dX3_product_9 : decode cX3_product 9 = .ok (.istore_n 2, 1) := dk_61 (dk_at dksX3_product_0 9 rfl rfl)
theorem dX3_product_10 : decode cX3_product 10 = .ok (.aload_n 0, 1) := dk_42 (dk_at dksX3_product_0 10 rfl rfl)
theorem dX3_product_11 : decode cX3_product 11 = .ok (.getfield 239, 3) := dk_180 0 239 (dk_at dksX3_product_0 11 rfl rfl)
theorem dX3_product_14 : decode cX3_product 14 = .ok (.ifCond .ge 80, 3) := dk_156 0 80 (dk_at dksX3_product_0 14 rfl rfl)
theorem dX3_product_17 : decode cX3_product 17 = .ok (.iload_n 2, 1) := dk_28 (dk_at dksX3_product_0 17 rfl rfl)
theorem dX3_product_18 : decode cX3_product 18 = .ok (.bipush 42, 2) := dk_16 42 (dk_at dksX3_product_0 18 rfl rfl)
theorem dX3_product_20 : decode cX3_product 20 = .ok (.if_icmp .eq 15, 3) := dk_159 0 15 (dk_at dksX3_product_0 20 rfl rfl)
theorem dX3_product_23 : decode cX3_product 23 = .ok (.iload_n 2, 1) := dk_28 (dk_at dksX3_product_0 23 rfl rfl)
theorem dX3_product_24 : decode cX3_product 24 = .ok (.bipush 47, 2) := dk_16 47 (dk_at dksX3_product_1 0 rfl rfl)
theorem dX3_product_26 : decode cX3_product 26 = .ok (.if_icmp .eq 9, 3) := dk_159 0 9 (dk_at dksX3_product_1 2 rfl rfl)
theorem dX3_product_29 : decode cX3_product 29 = .ok (.iload_n 2, 1) := dk_28 (dk_at dksX3_product_1 5 rfl rfl)
theorem dX3_product_30 : decode cX3_product 30 = .ok (.bipush 37, 2) := dk_16 37 (dk_at dksX3_product_1 6 rfl rfl)
theorem dX3_product_32 : decode cX3_product 32 = .ok (.if_icmp .ne 62, 3) := dk_160 0 62 (dk_at dksX3_product_1 8 rfl rfl)
theorem dX3_product_35 : decode cX3_product 35 = .ok (.aload_n 0, 1) := dk_42 (dk_at dksX3_product_1 11 rfl rfl)
theorem dX3_product_36 : decode cX3_product 36 = .ok (.dup, 1) := dk_89 (dk_at dksX3_product_1 12 rfl rfl)
theorem dX3_product_37 : decode cX3_product 37 = .ok (.getfield 230, 3) := dk_180 0 230 (dk_at dksX3_product_1 13 rfl rfl)
theorem dX3_product_40 : decode cX3_product 40 = .ok (.iconst 1, 1) := dk_4 (dk_at dksX3_product_1 16 rfl rfl)
theorem dX3_product_41 : decode cX3_product 41 = .ok (.iadd, 1) := dk_96 (dk_at dksX3_product_1 17 rfl rfl)
theorem dX3_product_42 : decode cX3_product 42 = .ok (.putfield 230, 3) := dk_181 0 230 (dk_at dksX3_product_1 18 rfl rfl)
theorem dX3_product_45 : decode cX3_product 45 = .ok (.aload_n 0, 1) := dk_42 (dk_at dksX3_product_1 21 rfl rfl)
theorem dX3_product_46 : decode cX3_product 46 = .ok (.invokevirtual 261, 3) := dk_182 1 5 (dk_at dksX3_product_2 0 rfl rfl)
theorem dX3_product_49 : decode cX3_product 49 = .ok (.istore_n 3, 1) := dk_62 (dk_at dksX3_product_2 3 rfl rfl)
theorem dX3_product_50 : decode cX3_product 50 = .ok (.iload_n 2, 1) := dk_28 (dk_at dksX3_product_2 4 rfl rfl)
theorem dX3_product_51 : decode cX3_product 51 = .ok (.bipush 42, 2) := dk_16 42 (dk_at dksX3_product_2 5 rfl rfl)
theorem dX3_product_53 : decode cX3_product 53 = .ok (.if_icmp .ne 9, 3) := dk_160 0 9 (dk_at dksX3_product_2 7 rfl rfl)
theorem dX3_product_56 : decode cX3_product 56 = .ok (.iload_n 1, 1) := dk_27 (dk_at dksX3_product_2 10 rfl rfl)
theorem dX3_product_57 : decode cX3_product 57 = .ok (.iload_n 3, 1) := dk_29 (dk_at dksX3_product_2 11 rfl rfl)
theorem dX3_product_58 : decode cX3_product 58 = .ok (.imul, 1) := dk_104 (dk_at dksX3_product_2 12 rfl rfl)
theorem dX3_product_59 : decode cX3_product 59 = .ok (.goto 26, 3) := dk_167 0 26 (dk_at dksX3_product_2 13 rfl rfl)
theorem dX3_product_62 : decode cX3_product 62 = .ok (.iload_n 3, 1) := dk_29 (dk_at dksX3_product_2 16 rfl rfl)
theorem dX3_product_63 : decode cX3_product 63 = .ok (.ifCond .ne 7, 3) := dk_154 0 7 (dk_at dksX3_product_2 17 rfl rfl)
theorem dX3_product_66 : decode cX3_product 66 = .ok (.iconst 0, 1) := dk_3 (dk_at dksX3_product_2 20 rfl rfl)
theorem dX3_product_67 : decode cX3_product 67 = .ok (.goto 18, 3) := dk_167 0 18 (dk_at dksX3_product_2 21 rfl rfl)
theorem dX3_product_70 : decode cX3_product 70 = .ok (.iload_n 2, 1) := dk_28 (dk_at dksX3_product_3 0 rfl rfl)
theorem dX3_product_71 : decode cX3_product 71 = .ok (.bipush 47, 2) := dk_16 47 (dk_at dksX3_product_3 1 rfl rfl)
theorem dX3_product_73 : decode cX3_product 73 = .ok (.if_icmp .ne 9, 3) := dk_160 0 9 (dk_at dksX3_product_3 3 rfl rfl)
theorem dX3_product_76 : decode cX3_product 76 = .ok (.iload_n 1, 1) := dk_27 (dk_at dksX3_product_3 6 rfl rfl)
theorem dX3_product_77 : decode cX3_product 77 = .ok (.iload_n 3, 1) := dk_29 (dk_at dksX3_product_3 7 rfl rfl)
theorem dX3_product_78 : decode cX3_product 78 = .ok (.idiv, 1) := dk_108 (dk_at dksX3_product_3 8 rfl rfl)
theorem dX3_product_79 : decode cX3_product 79 = .ok (.goto 6, 3) := dk_167 0 6 (dk_at dksX3_product_3 9 rfl rfl)
theorem dX3_product_82 : decode cX3_product 82 = .ok (.iload_n 1, 1) := dk_27 (dk_at dksX3_product_3 12 rfl rfl)
theorem dX3_product_83 : decode cX3_product 83 = .ok (.iload_n 3, 1) := dk_29 (dk_at dksX3_product_3 13 rfl rfl)
theorem dX3_product_84 : decode cX3_product 84 = .ok (.irem, 1) := dk_112 (dk_at dksX3_product_3 14 rfl rfl)
theorem dX3_product_85 : decode cX3_product 85 = .ok (.istore_n 1, 1) := dk_60 (dk_at dksX3_product_3 15 rfl rfl)
theorem dX3_product_86 : decode cX3_product 86 = .ok (.aload_n 0, 1) := dk_42 (dk_at dksX3_product_3 16 rfl rfl)
theorem dX3_product_87 : decode cX3_product 87 = .ok (.invokevirtual 242, 3) := dk_182 0 242 (dk_at dksX3_product_3 17 rfl rfl)
theorem dX3_product_90 : decode cX3_product 90 = .ok (.istore_n 2, 1) := dk_61 (dk_at dksX3_product_3 20 rfl rfl)
theorem dX3_product_91 : decode cX3_product 91 = .ok (.goto (-81), 3) := dk_167 255 175 (dk_at dksX3_product_3 21 rfl rfl)
theorem dX3_product_94 : decode cX3_product 94 = .ok (.iload_n 1, 1) := dk_27 (dk_at dksX3_product_4 0 rfl rfl)
theorem dX3_product_95 : decode cX3_product 95 = .ok (.ireturn, 1) := dk_172 (dk_at dksX3_product_4 1 rfl rfl)
abbrev cX3_one : ByteArray := prog_34_method_31_code
def yX3_one : MethodName := ⟨RX3, "one", "()I"⟩
def dkwX3_one_10 : List UInt8 := [182, 1, 11, 167, 0, 4, 29, 172]
abbrev dktX3_one_10 : List UInt8 := dkwX3_one_10 ++ []
def dkwX3_one_9 : List UInt8 := [62, 132, 4, 1, 42, 89, 180, 0, 230, 4, 96, 181, 0, 230, 167, 255, 206, 21, 4, 154, 0, 10, 42]
abbrev dktX3_one_9 : List UInt8 := dkwX3_one_9 ++ dktX3_one_10
def dkwX3_one_8 : List UInt8 := [161, 0, 41, 42, 182, 0, 242, 16, 57, 163, 0, 32, 16, 10, 29, 104, 42, 182, 0, 242, 96, 16, 48, 100]
abbrev dktX3_one_8 : List UInt8 := dkwX3_one_8 ++ dktX3_one_9
def dkwX3_one_7 : List UInt8 := [42, 180, 0, 40, 28, 46, 172, 3, 62, 3, 54, 4, 21, 4, 7, 162, 0, 50, 42, 182, 0, 242, 16, 48]
abbrev dktX3_one_7 : List UInt8 := dkwX3_one_7 ++ dktX3_one_8
def dkwX3_one_6 : List UInt8 := [167, 0, 4, 3, 172, 27, 184, 1, 17, 61, 28, 155, 0, 20, 42, 89, 180, 0, 230, 4, 96, 181, 0, 230]
abbrev dktX3_one_6 : List UInt8 := dkwX3_one_6 ++ dktX3_one_7
def dkwX3_one_5 : List UInt8 := [160, 0, 7, 28, 167, 0, 23, 27, 16, 45, 160, 0, 8, 28, 116, 167, 0, 12, 28, 154, 0, 7, 4]
abbrev dktX3_one_5 : List UInt8 := dkwX3_one_5 ++ dktX3_one_6
def dkwX3_one_4 : List UInt8 := [182, 0, 249, 154, 0, 8, 42, 182, 1, 11, 172, 42, 89, 180, 1, 8, 4, 100, 181, 1, 8, 27, 16, 40]
abbrev dktX3_one_4 : List UInt8 := dkwX3_one_4 ++ dktX3_one_5
def dkwX3_one_3 : List UInt8 := [160, 0, 10, 42, 182, 1, 14, 167, 0, 7, 42, 182, 1, 5, 61, 27, 16, 40, 160, 0, 17, 42, 16, 41]
abbrev dktX3_one_3 : List UInt8 := dkwX3_one_3 ++ dktX3_one_4
def dkwX3_one_2 : List UInt8 := [89, 180, 1, 8, 4, 96, 181, 1, 8, 42, 89, 180, 0, 230, 4, 96, 181, 0, 230, 27, 16, 40]
abbrev dktX3_one_2 : List UInt8 := dkwX3_one_2 ++ dktX3_one_3
def dkwX3_one_1 : List UInt8 := [159, 0, 9, 27, 16, 40, 160, 0, 116, 42, 180, 1, 8, 16, 6, 160, 0, 8, 42, 182, 1, 11, 172, 42]
abbrev dktX3_one_1 : List UInt8 := dkwX3_one_1 ++ dktX3_one_2
def dkwX3_one_0 : List UInt8 := [42, 180, 0, 239, 155, 0, 5, 3, 172, 42, 182, 0, 242, 60, 27, 16, 33, 159, 0, 15, 27, 16, 45]
abbrev dktX3_one_0 : List UInt8 := dkwX3_one_0 ++ dktX3_one_1
theorem dksX3_one_0 : cX3_one.data.toList.drop 0 = dktX3_one_0 := by decide +kernel
theorem dksX3_one_1 : cX3_one.data.toList.drop 23 = dktX3_one_1 := dk_seg dksX3_one_0 23 rfl rfl
theorem dksX3_one_2 : cX3_one.data.toList.drop 47 = dktX3_one_2 := dk_seg dksX3_one_1 24 rfl rfl
theorem dksX3_one_3 : cX3_one.data.toList.drop 69 = dktX3_one_3 := dk_seg dksX3_one_2 22 rfl rfl
theorem dksX3_one_4 : cX3_one.data.toList.drop 93 = dktX3_one_4 := dk_seg dksX3_one_3 24 rfl rfl
theorem dksX3_one_5 : cX3_one.data.toList.drop 117 = dktX3_one_5 := dk_seg dksX3_one_4 24 rfl rfl
theorem dksX3_one_6 : cX3_one.data.toList.drop 140 = dktX3_one_6 := dk_seg dksX3_one_5 23 rfl rfl
theorem dksX3_one_7 : cX3_one.data.toList.drop 164 = dktX3_one_7 := dk_seg dksX3_one_6 24 rfl rfl
theorem dksX3_one_8 : cX3_one.data.toList.drop 188 = dktX3_one_8 := dk_seg dksX3_one_7 24 rfl rfl
theorem dksX3_one_9 : cX3_one.data.toList.drop 212 = dktX3_one_9 := dk_seg dksX3_one_8 24 rfl rfl
theorem dksX3_one_10 : cX3_one.data.toList.drop 235 = dktX3_one_10 := dk_seg dksX3_one_9 23 rfl rfl
theorem dX3_one_0 : decode cX3_one 0 = .ok (.aload_n 0, 1) := dk_42 (dk_at dksX3_one_0 0 rfl rfl)
theorem dX3_one_1 : decode cX3_one 1 = .ok (.getfield 239, 3) := dk_180 0 239 (dk_at dksX3_one_0 1 rfl rfl)
theorem dX3_one_4 : decode cX3_one 4 = .ok (.ifCond .lt 5, 3) := dk_155 0 5 (dk_at dksX3_one_0 4 rfl rfl)
theorem dX3_one_7 : decode cX3_one 7 = .ok (.iconst 0, 1) := dk_3 (dk_at dksX3_one_0 7 rfl rfl)
theorem dX3_one_8 : decode cX3_one 8 = .ok (.ireturn, 1) := dk_172 (dk_at dksX3_one_0 8 rfl rfl)
theorem dX3_one_9 : decode cX3_one 9 = .ok (.aload_n 0, 1) := dk_42 (dk_at dksX3_one_0 9 rfl rfl)
theorem dX3_one_10 : decode cX3_one 10 = .ok (.invokevirtual 242, 3) := dk_182 0 242 (dk_at dksX3_one_0 10 rfl rfl)
theorem dX3_one_13 : decode cX3_one 13 = .ok (.istore_n 1, 1) := dk_60 (dk_at dksX3_one_0 13 rfl rfl)
theorem dX3_one_14 : decode cX3_one 14 = .ok (.iload_n 1, 1) := dk_27 (dk_at dksX3_one_0 14 rfl rfl)
theorem dX3_one_15 : decode cX3_one 15 = .ok (.bipush 33, 2) := dk_16 33 (dk_at dksX3_one_0 15 rfl rfl)
theorem dX3_one_17 : decode cX3_one 17 = .ok (.if_icmp .eq 15, 3) := dk_159 0 15 (dk_at dksX3_one_0 17 rfl rfl)
theorem dX3_one_20 : decode cX3_one 20 = .ok (.iload_n 1, 1) := dk_27 (dk_at dksX3_one_0 20 rfl rfl)
theorem dX3_one_21 : decode cX3_one 21 = .ok (.bipush 45, 2) := dk_16 45 (dk_at dksX3_one_0 21 rfl rfl)
theorem dX3_one_23 : decode cX3_one 23 = .ok (.if_icmp .eq 9, 3) := dk_159 0 9 (dk_at dksX3_one_1 0 rfl rfl)
theorem dX3_one_26 : decode cX3_one 26 = .ok (.iload_n 1, 1) := dk_27 (dk_at dksX3_one_1 3 rfl rfl)
theorem dX3_one_27 : decode cX3_one 27 = .ok (.bipush 40, 2) := dk_16 40 (dk_at dksX3_one_1 4 rfl rfl)
theorem dX3_one_29 : decode cX3_one 29 = .ok (.if_icmp .ne 116, 3) := dk_160 0 116 (dk_at dksX3_one_1 6 rfl rfl)
theorem dX3_one_32 : decode cX3_one 32 = .ok (.aload_n 0, 1) := dk_42 (dk_at dksX3_one_1 9 rfl rfl)
theorem dX3_one_33 : decode cX3_one 33 = .ok (.getfield 264, 3) := dk_180 1 8 (dk_at dksX3_one_1 10 rfl rfl)
theorem dX3_one_36 : decode cX3_one 36 = .ok (.bipush 6, 2) := dk_16 6 (dk_at dksX3_one_1 13 rfl rfl)
theorem dX3_one_38 : decode cX3_one 38 = .ok (.if_icmp .ne 8, 3) := dk_160 0 8 (dk_at dksX3_one_1 15 rfl rfl)
theorem dX3_one_41 : decode cX3_one 41 = .ok (.aload_n 0, 1) := dk_42 (dk_at dksX3_one_1 18 rfl rfl)
theorem dX3_one_42 : decode cX3_one 42 = .ok (.invokevirtual 267, 3) := dk_182 1 11 (dk_at dksX3_one_1 19 rfl rfl)
theorem dX3_one_45 : decode cX3_one 45 = .ok (.ireturn, 1) := dk_172 (dk_at dksX3_one_1 22 rfl rfl)
theorem dX3_one_46 : decode cX3_one 46 = .ok (.aload_n 0, 1) := dk_42 (dk_at dksX3_one_1 23 rfl rfl)
theorem dX3_one_47 : decode cX3_one 47 = .ok (.dup, 1) := dk_89 (dk_at dksX3_one_2 0 rfl rfl)
theorem dX3_one_48 : decode cX3_one 48 = .ok (.getfield 264, 3) := dk_180 1 8 (dk_at dksX3_one_2 1 rfl rfl)
theorem dX3_one_51 : decode cX3_one 51 = .ok (.iconst 1, 1) := dk_4 (dk_at dksX3_one_2 4 rfl rfl)
theorem dX3_one_52 : decode cX3_one 52 = .ok (.iadd, 1) := dk_96 (dk_at dksX3_one_2 5 rfl rfl)
theorem dX3_one_53 : decode cX3_one 53 = .ok (.putfield 264, 3) := dk_181 1 8 (dk_at dksX3_one_2 6 rfl rfl)
theorem dX3_one_56 : decode cX3_one 56 = .ok (.aload_n 0, 1) := dk_42 (dk_at dksX3_one_2 9 rfl rfl)
theorem dX3_one_57 : decode cX3_one 57 = .ok (.dup, 1) := dk_89 (dk_at dksX3_one_2 10 rfl rfl)
theorem dX3_one_58 : decode cX3_one 58 = .ok (.getfield 230, 3) := dk_180 0 230 (dk_at dksX3_one_2 11 rfl rfl)
theorem dX3_one_61 : decode cX3_one 61 = .ok (.iconst 1, 1) := dk_4 (dk_at dksX3_one_2 14 rfl rfl)
theorem dX3_one_62 : decode cX3_one 62 = .ok (.iadd, 1) := dk_96 (dk_at dksX3_one_2 15 rfl rfl)
theorem dX3_one_63 : decode cX3_one 63 = .ok (.putfield 230, 3) := dk_181 0 230 (dk_at dksX3_one_2 16 rfl rfl)
theorem dX3_one_66 : decode cX3_one 66 = .ok (.iload_n 1, 1) := dk_27 (dk_at dksX3_one_2 19 rfl rfl)
theorem dX3_one_67 : decode cX3_one 67 = .ok (.bipush 40, 2) := dk_16 40 (dk_at dksX3_one_2 20 rfl rfl)
theorem dX3_one_69 : decode cX3_one 69 = .ok (.if_icmp .ne 10, 3) := dk_160 0 10 (dk_at dksX3_one_3 0 rfl rfl)
theorem dX3_one_72 : decode cX3_one 72 = .ok (.aload_n 0, 1) := dk_42 (dk_at dksX3_one_3 3 rfl rfl)
theorem dX3_one_73 : decode cX3_one 73 = .ok (.invokevirtual 270, 3) := dk_182 1 14 (dk_at dksX3_one_3 4 rfl rfl)
theorem dX3_one_76 : decode cX3_one 76 = .ok (.goto 7, 3) := dk_167 0 7 (dk_at dksX3_one_3 7 rfl rfl)
theorem dX3_one_79 : decode cX3_one 79 = .ok (.aload_n 0, 1) := dk_42 (dk_at dksX3_one_3 10 rfl rfl)
theorem dX3_one_80 : decode cX3_one 80 = .ok (.invokevirtual 261, 3) := dk_182 1 5 (dk_at dksX3_one_3 11 rfl rfl)
theorem dX3_one_83 : decode cX3_one 83 = .ok (.istore_n 2, 1) := dk_61 (dk_at dksX3_one_3 14 rfl rfl)
theorem dX3_one_84 : decode cX3_one 84 = .ok (.iload_n 1, 1) := dk_27 (dk_at dksX3_one_3 15 rfl rfl)
theorem dX3_one_85 : decode cX3_one 85 = .ok (.bipush 40, 2) := dk_16 40 (dk_at dksX3_one_3 16 rfl rfl)
theorem dX3_one_87 : decode cX3_one 87 = .ok (.if_icmp .ne 17, 3) := dk_160 0 17 (dk_at dksX3_one_3 18 rfl rfl)
theorem dX3_one_90 : decode cX3_one 90 = .ok (.aload_n 0, 1) := dk_42 (dk_at dksX3_one_3 21 rfl rfl)
theorem dX3_one_91 : decode cX3_one 91 = .ok (.bipush 41, 2) := dk_16 41 (dk_at dksX3_one_3 22 rfl rfl)
theorem dX3_one_93 : decode cX3_one 93 = .ok (.invokevirtual 249, 3) := dk_182 0 249 (dk_at dksX3_one_4 0 rfl rfl)
theorem dX3_one_96 : decode cX3_one 96 = .ok (.ifCond .ne 8, 3) := dk_154 0 8 (dk_at dksX3_one_4 3 rfl rfl)
theorem dX3_one_99 : decode cX3_one 99 = .ok (.aload_n 0, 1) := dk_42 (dk_at dksX3_one_4 6 rfl rfl)
theorem dX3_one_100 : decode cX3_one 100 = .ok (.invokevirtual 267, 3) := dk_182 1 11 (dk_at dksX3_one_4 7 rfl rfl)
theorem dX3_one_103 : decode cX3_one 103 = .ok (.ireturn, 1) := dk_172 (dk_at dksX3_one_4 10 rfl rfl)
theorem dX3_one_104 : decode cX3_one 104 = .ok (.aload_n 0, 1) := dk_42 (dk_at dksX3_one_4 11 rfl rfl)
theorem dX3_one_105 : decode cX3_one 105 = .ok (.dup, 1) := dk_89 (dk_at dksX3_one_4 12 rfl rfl)
theorem dX3_one_106 : decode cX3_one 106 = .ok (.getfield 264, 3) := dk_180 1 8 (dk_at dksX3_one_4 13 rfl rfl)
theorem dX3_one_109 : decode cX3_one 109 = .ok (.iconst 1, 1) := dk_4 (dk_at dksX3_one_4 16 rfl rfl)
theorem dX3_one_110 : decode cX3_one 110 = .ok (.isub, 1) := dk_100 (dk_at dksX3_one_4 17 rfl rfl)
theorem dX3_one_111 : decode cX3_one 111 = .ok (.putfield 264, 3) := dk_181 1 8 (dk_at dksX3_one_4 18 rfl rfl)
theorem dX3_one_114 : decode cX3_one 114 = .ok (.iload_n 1, 1) := dk_27 (dk_at dksX3_one_4 21 rfl rfl)
theorem dX3_one_115 : decode cX3_one 115 = .ok (.bipush 40, 2) := dk_16 40 (dk_at dksX3_one_4 22 rfl rfl)
theorem dX3_one_117 : decode cX3_one 117 = .ok (.if_icmp .ne 7, 3) := dk_160 0 7 (dk_at dksX3_one_5 0 rfl rfl)
theorem dX3_one_120 : decode cX3_one 120 = .ok (.iload_n 2, 1) := dk_28 (dk_at dksX3_one_5 3 rfl rfl)
theorem dX3_one_121 : decode cX3_one 121 = .ok (.goto 23, 3) := dk_167 0 23 (dk_at dksX3_one_5 4 rfl rfl)
theorem dX3_one_124 : decode cX3_one 124 = .ok (.iload_n 1, 1) := dk_27 (dk_at dksX3_one_5 7 rfl rfl)
theorem dX3_one_125 : decode cX3_one 125 = .ok (.bipush 45, 2) := dk_16 45 (dk_at dksX3_one_5 8 rfl rfl)
theorem dX3_one_127 : decode cX3_one 127 = .ok (.if_icmp .ne 8, 3) := dk_160 0 8 (dk_at dksX3_one_5 10 rfl rfl)
theorem dX3_one_130 : decode cX3_one 130 = .ok (.iload_n 2, 1) := dk_28 (dk_at dksX3_one_5 13 rfl rfl)
theorem dX3_one_131 : decode cX3_one 131 = .ok (.ineg, 1) := dk_116 (dk_at dksX3_one_5 14 rfl rfl)
theorem dX3_one_132 : decode cX3_one 132 = .ok (.goto 12, 3) := dk_167 0 12 (dk_at dksX3_one_5 15 rfl rfl)
theorem dX3_one_135 : decode cX3_one 135 = .ok (.iload_n 2, 1) := dk_28 (dk_at dksX3_one_5 18 rfl rfl)
theorem dX3_one_136 : decode cX3_one 136 = .ok (.ifCond .ne 7, 3) := dk_154 0 7 (dk_at dksX3_one_5 19 rfl rfl)
theorem dX3_one_139 : decode cX3_one 139 = .ok (.iconst 1, 1) := dk_4 (dk_at dksX3_one_5 22 rfl rfl)
theorem dX3_one_140 : decode cX3_one 140 = .ok (.goto 4, 3) := dk_167 0 4 (dk_at dksX3_one_6 0 rfl rfl)
theorem dX3_one_143 : decode cX3_one 143 = .ok (.iconst 0, 1) := dk_3 (dk_at dksX3_one_6 3 rfl rfl)
theorem dX3_one_144 : decode cX3_one 144 = .ok (.ireturn, 1) := dk_172 (dk_at dksX3_one_6 4 rfl rfl)
theorem dX3_one_145 : decode cX3_one 145 = .ok (.iload_n 1, 1) := dk_27 (dk_at dksX3_one_6 5 rfl rfl)
theorem dX3_one_146 : decode cX3_one 146 = .ok (.invokestatic 273, 3) := dk_184 1 17 (dk_at dksX3_one_6 6 rfl rfl)
theorem dX3_one_149 : decode cX3_one 149 = .ok (.istore_n 2, 1) := dk_61 (dk_at dksX3_one_6 9 rfl rfl)
theorem dX3_one_150 : decode cX3_one 150 = .ok (.iload_n 2, 1) := dk_28 (dk_at dksX3_one_6 10 rfl rfl)
theorem dX3_one_151 : decode cX3_one 151 = .ok (.ifCond .lt 20, 3) := dk_155 0 20 (dk_at dksX3_one_6 11 rfl rfl)
theorem dX3_one_154 : decode cX3_one 154 = .ok (.aload_n 0, 1) := dk_42 (dk_at dksX3_one_6 14 rfl rfl)
theorem dX3_one_155 : decode cX3_one 155 = .ok (.dup, 1) := dk_89 (dk_at dksX3_one_6 15 rfl rfl)
theorem dX3_one_156 : decode cX3_one 156 = .ok (.getfield 230, 3) := dk_180 0 230 (dk_at dksX3_one_6 16 rfl rfl)
theorem dX3_one_159 : decode cX3_one 159 = .ok (.iconst 1, 1) := dk_4 (dk_at dksX3_one_6 19 rfl rfl)
theorem dX3_one_160 : decode cX3_one 160 = .ok (.iadd, 1) := dk_96 (dk_at dksX3_one_6 20 rfl rfl)
theorem dX3_one_161 : decode cX3_one 161 = .ok (.putfield 230, 3) := dk_181 0 230 (dk_at dksX3_one_6 21 rfl rfl)
theorem dX3_one_164 : decode cX3_one 164 = .ok (.aload_n 0, 1) := dk_42 (dk_at dksX3_one_7 0 rfl rfl)
theorem dX3_one_165 : decode cX3_one 165 = .ok (.getfield 40, 3) := dk_180 0 40 (dk_at dksX3_one_7 1 rfl rfl)
theorem dX3_one_168 : decode cX3_one 168 = .ok (.iload_n 2, 1) := dk_28 (dk_at dksX3_one_7 4 rfl rfl)
theorem dX3_one_169 : decode cX3_one 169 = .ok (.iaload, 1) := dk_46 (dk_at dksX3_one_7 5 rfl rfl)
theorem dX3_one_170 : decode cX3_one 170 = .ok (.ireturn, 1) := dk_172 (dk_at dksX3_one_7 6 rfl rfl)
theorem dX3_one_171 : decode cX3_one 171 = .ok (.iconst 0, 1) := dk_3 (dk_at dksX3_one_7 7 rfl rfl)
theorem dX3_one_172 : decode cX3_one 172 = .ok (.istore_n 3, 1) := dk_62 (dk_at dksX3_one_7 8 rfl rfl)
theorem dX3_one_173 : decode cX3_one 173 = .ok (.iconst 0, 1) := dk_3 (dk_at dksX3_one_7 9 rfl rfl)
theorem dX3_one_174 : decode cX3_one 174 = .ok (.istore 4, 2) := dk_54 4 (dk_at dksX3_one_7 10 rfl rfl)
theorem dX3_one_176 : decode cX3_one 176 = .ok (.iload 4, 2) := dk_21 4 (dk_at dksX3_one_7 12 rfl rfl)
theorem dX3_one_178 : decode cX3_one 178 = .ok (.iconst 4, 1) := dk_7 (dk_at dksX3_one_7 14 rfl rfl)
theorem dX3_one_179 : decode cX3_one 179 = .ok (.if_icmp .ge 50, 3) := dk_162 0 50 (dk_at dksX3_one_7 15 rfl rfl)
theorem dX3_one_182 : decode cX3_one 182 = .ok (.aload_n 0, 1) := dk_42 (dk_at dksX3_one_7 18 rfl rfl)
theorem dX3_one_183 : decode cX3_one 183 = .ok (.invokevirtual 242, 3) := dk_182 0 242 (dk_at dksX3_one_7 19 rfl rfl)
theorem dX3_one_186 : decode cX3_one 186 = .ok (.bipush 48, 2) := dk_16 48 (dk_at dksX3_one_7 22 rfl rfl)
theorem dX3_one_188 : decode cX3_one 188 = .ok (.if_icmp .lt 41, 3) := dk_161 0 41 (dk_at dksX3_one_8 0 rfl rfl)
theorem dX3_one_191 : decode cX3_one 191 = .ok (.aload_n 0, 1) := dk_42 (dk_at dksX3_one_8 3 rfl rfl)
theorem dX3_one_192 : decode cX3_one 192 = .ok (.invokevirtual 242, 3) := dk_182 0 242 (dk_at dksX3_one_8 4 rfl rfl)
theorem dX3_one_195 : decode cX3_one 195 = .ok (.bipush 57, 2) := dk_16 57 (dk_at dksX3_one_8 7 rfl rfl)
theorem dX3_one_197 : decode cX3_one 197 = .ok (.if_icmp .gt 32, 3) := dk_163 0 32 (dk_at dksX3_one_8 9 rfl rfl)
theorem dX3_one_200 : decode cX3_one 200 = .ok (.bipush 10, 2) := dk_16 10 (dk_at dksX3_one_8 12 rfl rfl)
theorem dX3_one_202 : decode cX3_one 202 = .ok (.iload_n 3, 1) := dk_29 (dk_at dksX3_one_8 14 rfl rfl)
theorem dX3_one_203 : decode cX3_one 203 = .ok (.imul, 1) := dk_104 (dk_at dksX3_one_8 15 rfl rfl)
theorem dX3_one_204 : decode cX3_one 204 = .ok (.aload_n 0, 1) := dk_42 (dk_at dksX3_one_8 16 rfl rfl)
theorem dX3_one_205 : decode cX3_one 205 = .ok (.invokevirtual 242, 3) := dk_182 0 242 (dk_at dksX3_one_8 17 rfl rfl)
theorem dX3_one_208 : decode cX3_one 208 = .ok (.iadd, 1) := dk_96 (dk_at dksX3_one_8 20 rfl rfl)
theorem dX3_one_209 : decode cX3_one 209 = .ok (.bipush 48, 2) := dk_16 48 (dk_at dksX3_one_8 21 rfl rfl)
theorem dX3_one_211 : decode cX3_one 211 = .ok (.isub, 1) := dk_100 (dk_at dksX3_one_8 23 rfl rfl)
theorem dX3_one_212 : decode cX3_one 212 = .ok (.istore_n 3, 1) := dk_62 (dk_at dksX3_one_9 0 rfl rfl)
theorem dX3_one_213 : decode cX3_one 213 = .ok (.iinc 4 1, 3) := dk_132 4 1 (dk_at dksX3_one_9 1 rfl rfl)
theorem dX3_one_216 : decode cX3_one 216 = .ok (.aload_n 0, 1) := dk_42 (dk_at dksX3_one_9 4 rfl rfl)
theorem dX3_one_217 : decode cX3_one 217 = .ok (.dup, 1) := dk_89 (dk_at dksX3_one_9 5 rfl rfl)
theorem dX3_one_218 : decode cX3_one 218 = .ok (.getfield 230, 3) := dk_180 0 230 (dk_at dksX3_one_9 6 rfl rfl)
theorem dX3_one_221 : decode cX3_one 221 = .ok (.iconst 1, 1) := dk_4 (dk_at dksX3_one_9 9 rfl rfl)
theorem dX3_one_222 : decode cX3_one 222 = .ok (.iadd, 1) := dk_96 (dk_at dksX3_one_9 10 rfl rfl)
theorem dX3_one_223 : decode cX3_one 223 = .ok (.putfield 230, 3) := dk_181 0 230 (dk_at dksX3_one_9 11 rfl rfl)
theorem dX3_one_226 : decode cX3_one 226 = .ok (.goto (-50), 3) := dk_167 255 206 (dk_at dksX3_one_9 14 rfl rfl)
theorem dX3_one_229 : decode cX3_one 229 = .ok (.iload 4, 2) := dk_21 4 (dk_at dksX3_one_9 17 rfl rfl)
theorem dX3_one_231 : decode cX3_one 231 = .ok (.ifCond .ne 10, 3) := dk_154 0 10 (dk_at dksX3_one_9 19 rfl rfl)
theorem dX3_one_234 : decode cX3_one 234 = .ok (.aload_n 0, 1) := dk_42 (dk_at dksX3_one_9 22 rfl rfl)
theorem dX3_one_235 : decode cX3_one 235 = .ok (.invokevirtual 267, 3) := dk_182 1 11 (dk_at dksX3_one_10 0 rfl rfl)
theorem dX3_one_238 : decode cX3_one 238 = .ok (.goto 4, 3) := dk_167 0 4 (dk_at dksX3_one_10 3 rfl rfl)
theorem dX3_one_241 : decode cX3_one 241 = .ok (.iload_n 3, 1) := dk_29 (dk_at dksX3_one_10 6 rfl rfl)
theorem dX3_one_242 : decode cX3_one 242 = .ok (.ireturn, 1) := dk_172 (dk_at dksX3_one_10 7 rfl rfl)
abbrev cX3_byteAt : ByteArray := prog_34_method_22_code
def yX3_byteAt : MethodName := ⟨RX3, "byteAt", "()I"⟩
def dkwX3_byteAt_2 : List UInt8 := [3, 172]
abbrev dktX3_byteAt_2 : List UInt8 := dkwX3_byteAt_2 ++ []
def dkwX3_byteAt_1 : List UInt8 := [180, 0, 230, 46, 167, 0, 21, 42, 180, 0, 37, 42, 180, 0, 236, 42, 180, 0, 230, 96, 46, 167, 0, 4]
abbrev dktX3_byteAt_1 : List UInt8 := dkwX3_byteAt_1 ++ dktX3_byteAt_2
def dkwX3_byteAt_0 : List UInt8 := [42, 180, 0, 230, 42, 180, 0, 233, 162, 0, 39, 42, 180, 0, 236, 156, 0, 15, 42, 180, 0, 34, 42]
abbrev dktX3_byteAt_0 : List UInt8 := dkwX3_byteAt_0 ++ dktX3_byteAt_1
theorem dksX3_byteAt_0 : cX3_byteAt.data.toList.drop 0 = dktX3_byteAt_0 := by decide +kernel
theorem dksX3_byteAt_1 : cX3_byteAt.data.toList.drop 23 = dktX3_byteAt_1 := dk_seg dksX3_byteAt_0 23 rfl rfl
theorem dksX3_byteAt_2 : cX3_byteAt.data.toList.drop 47 = dktX3_byteAt_2 := dk_seg dksX3_byteAt_1 24 rfl rfl
theorem dX3_byteAt_0 : decode cX3_byteAt 0 = .ok (.aload_n 0, 1) := dk_42 (dk_at dksX3_byteAt_0 0 rfl rfl)
theorem dX3_byteAt_1 : decode cX3_byteAt 1 = .ok (.getfield 230, 3) := dk_180 0 230 (dk_at dksX3_byteAt_0 1 rfl rfl)
theorem dX3_byteAt_4 : decode cX3_byteAt 4 = .ok (.aload_n 0, 1) := dk_42 (dk_at dksX3_byteAt_0 4 rfl rfl)
theorem dX3_byteAt_5 : decode cX3_byteAt 5 = .ok (.getfield 233, 3) := dk_180 0 233 (dk_at dksX3_byteAt_0 5 rfl rfl)
theorem dX3_byteAt_8 : decode cX3_byteAt 8 = .ok (.if_icmp .ge 39, 3) := dk_162 0 39 (dk_at dksX3_byteAt_0 8 rfl rfl)
theorem dX3_byteAt_11 : decode cX3_byteAt 11 = .ok (.aload_n 0, 1) := dk_42 (dk_at dksX3_byteAt_0 11 rfl rfl)
theorem dX3_byteAt_12 : decode cX3_byteAt 12 = .ok (.getfield 236, 3) := dk_180 0 236 (dk_at dksX3_byteAt_0 12 rfl rfl)
theorem dX3_byteAt_15 : decode cX3_byteAt 15 = .ok (.ifCond .ge 15, 3) := dk_156 0 15 (dk_at dksX3_byteAt_0 15 rfl rfl)
theorem dX3_byteAt_18 : decode cX3_byteAt 18 = .ok (.aload_n 0, 1) := dk_42 (dk_at dksX3_byteAt_0 18 rfl rfl)
theorem dX3_byteAt_19 : decode cX3_byteAt 19 = .ok (.getfield 34, 3) := dk_180 0 34 (dk_at dksX3_byteAt_0 19 rfl rfl)
theorem dX3_byteAt_22 : decode cX3_byteAt 22 = .ok (.aload_n 0, 1) := dk_42 (dk_at dksX3_byteAt_0 22 rfl rfl)
theorem dX3_byteAt_23 : decode cX3_byteAt 23 = .ok (.getfield 230, 3) := dk_180 0 230 (dk_at dksX3_byteAt_1 0 rfl rfl)
theorem dX3_byteAt_26 : decode cX3_byteAt 26 = .ok (.iaload, 1) := dk_46 (dk_at dksX3_byteAt_1 3 rfl rfl)
theorem dX3_byteAt_27 : decode cX3_byteAt 27 = .ok (.goto 21, 3) := dk_167 0 21 (dk_at dksX3_byteAt_1 4 rfl rfl)
theorem dX3_byteAt_30 : decode cX3_byteAt 30 = .ok (.aload_n 0, 1) := dk_42 (dk_at dksX3_byteAt_1 7 rfl rfl)
theorem dX3_byteAt_31 : decode cX3_byteAt 31 = .ok (.getfield 37, 3) := dk_180 0 37 (dk_at dksX3_byteAt_1 8 rfl rfl)
theorem dX3_byteAt_34 : decode cX3_byteAt 34 = .ok (.aload_n 0, 1) := dk_42 (dk_at dksX3_byteAt_1 11 rfl rfl)
theorem dX3_byteAt_35 : decode cX3_byteAt 35 = .ok (.getfield 236, 3) := dk_180 0 236 (dk_at dksX3_byteAt_1 12 rfl rfl)
theorem dX3_byteAt_38 : decode cX3_byteAt 38 = .ok (.aload_n 0, 1) := dk_42 (dk_at dksX3_byteAt_1 15 rfl rfl)
theorem dX3_byteAt_39 : decode cX3_byteAt 39 = .ok (.getfield 230, 3) := dk_180 0 230 (dk_at dksX3_byteAt_1 16 rfl rfl)
theorem dX3_byteAt_42 : decode cX3_byteAt 42 = .ok (.iadd, 1) := dk_96 (dk_at dksX3_byteAt_1 19 rfl rfl)
theorem dX3_byteAt_43 : decode cX3_byteAt 43 = .ok (.iaload, 1) := dk_46 (dk_at dksX3_byteAt_1 20 rfl rfl)
theorem dX3_byteAt_44 : decode cX3_byteAt 44 = .ok (.goto 4, 3) := dk_167 0 4 (dk_at dksX3_byteAt_1 21 rfl rfl)
theorem dX3_byteAt_47 : decode cX3_byteAt 47 = .ok (.iconst 0, 1) := dk_3 (dk_at dksX3_byteAt_2 0 rfl rfl)
theorem dX3_byteAt_48 : decode cX3_byteAt 48 = .ok (.ireturn, 1) := dk_172 (dk_at dksX3_byteAt_2 1 rfl rfl)
abbrev cX3_wrong : ByteArray := prog_34_method_23_code
def yX3_wrong : MethodName := ⟨RX3, "wrong", "()I"⟩
def dkwX3_wrong_0 : List UInt8 := [42, 42, 180, 0, 239, 156, 0, 10, 42, 180, 0, 230, 167, 0, 7, 42, 180, 0, 239, 181, 0, 239, 3, 172]
abbrev dktX3_wrong_0 : List UInt8 := dkwX3_wrong_0 ++ []
theorem dksX3_wrong_0 : cX3_wrong.data.toList.drop 0 = dktX3_wrong_0 := by decide +kernel
theorem dX3_wrong_0 : decode cX3_wrong 0 = .ok (.aload_n 0, 1) := dk_42 (dk_at dksX3_wrong_0 0 rfl rfl)
theorem dX3_wrong_1 : decode cX3_wrong 1 = .ok (.aload_n 0, 1) := dk_42 (dk_at dksX3_wrong_0 1 rfl rfl)
theorem dX3_wrong_2 : decode cX3_wrong 2 = .ok (.getfield 239, 3) := dk_180 0 239 (dk_at dksX3_wrong_0 2 rfl rfl)
theorem dX3_wrong_5 : decode cX3_wrong 5 = .ok (.ifCond .ge 10, 3) := dk_156 0 10 (dk_at dksX3_wrong_0 5 rfl rfl)
theorem dX3_wrong_8 : decode cX3_wrong 8 = .ok (.aload_n 0, 1) := dk_42 (dk_at dksX3_wrong_0 8 rfl rfl)
theorem dX3_wrong_9 : decode cX3_wrong 9 = .ok (.getfield 230, 3) := dk_180 0 230 (dk_at dksX3_wrong_0 9 rfl rfl)
theorem dX3_wrong_12 : decode cX3_wrong 12 = .ok (.goto 7, 3) := dk_167 0 7 (dk_at dksX3_wrong_0 12 rfl rfl)
theorem dX3_wrong_15 : decode cX3_wrong 15 = .ok (.aload_n 0, 1) := dk_42 (dk_at dksX3_wrong_0 15 rfl rfl)
theorem dX3_wrong_16 : decode cX3_wrong 16 = .ok (.getfield 239, 3) := dk_180 0 239 (dk_at dksX3_wrong_0 16 rfl rfl)
theorem dX3_wrong_19 : decode cX3_wrong 19 = .ok (.putfield 239, 3) := dk_181 0 239 (dk_at dksX3_wrong_0 19 rfl rfl)
theorem dX3_wrong_22 : decode cX3_wrong 22 = .ok (.iconst 0, 1) := dk_3 (dk_at dksX3_wrong_0 22 rfl rfl)
theorem dX3_wrong_23 : decode cX3_wrong 23 = .ok (.ireturn, 1) := dk_172 (dk_at dksX3_wrong_0 23 rfl rfl)
