set_option maxRecDepth 100000
abbrev cX7_init : ByteArray := prog_23_method_1_code
def yX7_init : MethodName := ⟨RX7, "<init>", "(LSpeaksInTurn;)V"⟩
def dkwX7_init_0 : List UInt8 := [42, 43, 181, 0, 3, 42, 183, 0, 9, 42, 2, 181, 0, 15, 177]
abbrev dktX7_init_0 : List UInt8 := dkwX7_init_0 ++ []
theorem dksX7_init_0 : cX7_init.data.toList.drop 0 = dktX7_init_0 := by decide +kernel
theorem dX7_init_0 : decode cX7_init 0 = .ok (.aload_n 0, 1) := dk_42 (dk_at dksX7_init_0 0 rfl rfl)
theorem dX7_init_1 : decode cX7_init 1 = .ok (.aload_n 1, 1) := dk_43 (dk_at dksX7_init_0 1 rfl rfl)
theorem dX7_init_2 : decode cX7_init 2 = .ok (.putfield 3, 3) := dk_181 0 3 (dk_at dksX7_init_0 2 rfl rfl)
theorem dX7_init_5 : decode cX7_init 5 = .ok (.aload_n 0, 1) := dk_42 (dk_at dksX7_init_0 5 rfl rfl)
theorem dX7_init_6 : decode cX7_init 6 = .ok (.invokespecial 9, 3) := dk_183 0 9 (dk_at dksX7_init_0 6 rfl rfl)
theorem dX7_init_9 : decode cX7_init 9 = .ok (.aload_n 0, 1) := dk_42 (dk_at dksX7_init_0 9 rfl rfl)
theorem dX7_init_10 : decode cX7_init 10 = .ok (.iconst (-1), 1) := dk_2 (dk_at dksX7_init_0 10 rfl rfl)
theorem dX7_init_11 : decode cX7_init 11 = .ok (.putfield 15, 3) := dk_181 0 15 (dk_at dksX7_init_0 11 rfl rfl)
theorem dX7_init_14 : decode cX7_init 14 = .ok (.return_, 1) := dk_177 (dk_at dksX7_init_0 14 rfl rfl)
abbrev cX7_lines : ByteArray := prog_23_method_5_code
def yX7_lines : MethodName := ⟨RX7, "lines", "()LSpeaksInTurn$Line;"⟩
def dkwX7_lines_3 : List UInt8 := [42, 42, 180, 0, 19, 181, 0, 15, 43, 176]
abbrev dktX7_lines_3 : List UInt8 := dkwX7_lines_3 ++ []
def dkwX7_lines_2 : List UInt8 := [167, 255, 217, 42, 180, 0, 15, 156, 0, 25, 42, 180, 0, 19, 42, 180, 0, 3, 180, 0, 22, 162, 0, 11]
abbrev dktX7_lines_2 : List UInt8 := dkwX7_lines_2 ++ dktX7_lines_3
def dkwX7_lines_1 : List UInt8 := [89, 180, 0, 19, 4, 96, 181, 0, 19, 44, 42, 182, 0, 39, 181, 0, 43, 44, 180, 0, 43, 77]
abbrev dktX7_lines_1 : List UInt8 := dkwX7_lines_1 ++ dktX7_lines_2
def dkwX7_lines_0 : List UInt8 := [42, 182, 0, 39, 76, 43, 77, 42, 180, 0, 15, 156, 0, 38, 42, 182, 0, 29, 16, 59, 160, 0, 29, 42]
abbrev dktX7_lines_0 : List UInt8 := dkwX7_lines_0 ++ dktX7_lines_1
theorem dksX7_lines_0 : cX7_lines.data.toList.drop 0 = dktX7_lines_0 := by decide +kernel
theorem dksX7_lines_1 : cX7_lines.data.toList.drop 24 = dktX7_lines_1 := dk_seg dksX7_lines_0 24 rfl rfl
theorem dksX7_lines_2 : cX7_lines.data.toList.drop 46 = dktX7_lines_2 := dk_seg dksX7_lines_1 22 rfl rfl
theorem dksX7_lines_3 : cX7_lines.data.toList.drop 70 = dktX7_lines_3 := dk_seg dksX7_lines_2 24 rfl rfl
theorem dX7_lines_0 : decode cX7_lines 0 = .ok (.aload_n 0, 1) := dk_42 (dk_at dksX7_lines_0 0 rfl rfl)
theorem dX7_lines_1 : decode cX7_lines 1 = .ok (.invokevirtual 39, 3) := dk_182 0 39 (dk_at dksX7_lines_0 1 rfl rfl)
theorem dX7_lines_4 : decode cX7_lines 4 = .ok (.astore_n 1, 1) := dk_76 (dk_at dksX7_lines_0 4 rfl rfl)
theorem dX7_lines_5 : decode cX7_lines 5 = .ok (.aload_n 1, 1) := dk_43 (dk_at dksX7_lines_0 5 rfl rfl)
theorem dX7_lines_6 : decode cX7_lines 6 = .ok (.astore_n 2, 1) := dk_77 (dk_at dksX7_lines_0 6 rfl rfl)
theorem dX7_lines_7 : decode cX7_lines 7 = .ok (.aload_n 0, 1) := dk_42 (dk_at dksX7_lines_0 7 rfl rfl)
theorem dX7_lines_8 : decode cX7_lines 8 = .ok (.getfield 15, 3) := dk_180 0 15 (dk_at dksX7_lines_0 8 rfl rfl)
theorem dX7_lines_11 : decode cX7_lines 11 = .ok (.ifCond .ge 38, 3) := dk_156 0 38 (dk_at dksX7_lines_0 11 rfl rfl)
theorem dX7_lines_14 : decode cX7_lines 14 = .ok (.aload_n 0, 1) := dk_42 (dk_at dksX7_lines_0 14 rfl rfl)
theorem dX7_lines_15 : decode cX7_lines 15 = .ok (.invokevirtual 29, 3) := dk_182 0 29 (dk_at dksX7_lines_0 15 rfl rfl)
theorem dX7_lines_18 : decode cX7_lines 18 = .ok (.bipush 59, 2) := dk_16 59 (dk_at dksX7_lines_0 18 rfl rfl)
theorem dX7_lines_20 : decode cX7_lines 20 = .ok (.if_icmp .ne 29, 3) := dk_160 0 29 (dk_at dksX7_lines_0 20 rfl rfl)
theorem dX7_lines_23 : decode cX7_lines 23 = .ok (.aload_n 0, 1) := dk_42 (dk_at dksX7_lines_0 23 rfl rfl)
theorem dX7_lines_24 : decode cX7_lines 24 = .ok (.dup, 1) := dk_89 (dk_at dksX7_lines_1 0 rfl rfl)
theorem dX7_lines_25 : decode cX7_lines 25 = .ok (.getfield 19, 3) := dk_180 0 19 (dk_at dksX7_lines_1 1 rfl rfl)
theorem dX7_lines_28 : decode cX7_lines 28 = .ok (.iconst 1, 1) := dk_4 (dk_at dksX7_lines_1 4 rfl rfl)
theorem dX7_lines_29 : decode cX7_lines 29 = .ok (.iadd, 1) := dk_96 (dk_at dksX7_lines_1 5 rfl rfl)
theorem dX7_lines_30 : decode cX7_lines 30 = .ok (.putfield 19, 3) := dk_181 0 19 (dk_at dksX7_lines_1 6 rfl rfl)
theorem dX7_lines_33 : decode cX7_lines 33 = .ok (.aload_n 2, 1) := dk_44 (dk_at dksX7_lines_1 9 rfl rfl)
theorem dX7_lines_34 : decode cX7_lines 34 = .ok (.aload_n 0, 1) := dk_42 (dk_at dksX7_lines_1 10 rfl rfl)
theorem dX7_lines_35 : decode cX7_lines 35 = .ok (.invokevirtual 39, 3) := dk_182 0 39 (dk_at dksX7_lines_1 11 rfl rfl)
theorem dX7_lines_38 : decode cX7_lines 38 = .ok (.putfield 43, 3) := dk_181 0 43 (dk_at dksX7_lines_1 14 rfl rfl)
theorem dX7_lines_41 : decode cX7_lines 41 = .ok (.aload_n 2, 1) := dk_44 (dk_at dksX7_lines_1 17 rfl rfl)
theorem dX7_lines_42 : decode cX7_lines 42 = .ok (.getfield 43, 3) := dk_180 0 43 (dk_at dksX7_lines_1 18 rfl rfl)
theorem dX7_lines_45 : decode cX7_lines 45 = .ok (.astore_n 2, 1) := dk_77 (dk_at dksX7_lines_1 21 rfl rfl)
theorem dX7_lines_46 : decode cX7_lines 46 = .ok (.goto (-39), 3) := dk_167 255 217 (dk_at dksX7_lines_2 0 rfl rfl)
theorem dX7_lines_49 : decode cX7_lines 49 = .ok (.aload_n 0, 1) := dk_42 (dk_at dksX7_lines_2 3 rfl rfl)
theorem dX7_lines_50 : decode cX7_lines 50 = .ok (.getfield 15, 3) := dk_180 0 15 (dk_at dksX7_lines_2 4 rfl rfl)
theorem dX7_lines_53 : decode cX7_lines 53 = .ok (.ifCond .ge 25, 3) := dk_156 0 25 (dk_at dksX7_lines_2 7 rfl rfl)
theorem dX7_lines_56 : decode cX7_lines 56 = .ok (.aload_n 0, 1) := dk_42 (dk_at dksX7_lines_2 10 rfl rfl)
theorem dX7_lines_57 : decode cX7_lines 57 = .ok (.getfield 19, 3) := dk_180 0 19 (dk_at dksX7_lines_2 11 rfl rfl)
theorem dX7_lines_60 : decode cX7_lines 60 = .ok (.aload_n 0, 1) := dk_42 (dk_at dksX7_lines_2 14 rfl rfl)
theorem dX7_lines_61 : decode cX7_lines 61 = .ok (.getfield 3, 3) := dk_180 0 3 (dk_at dksX7_lines_2 15 rfl rfl)
theorem dX7_lines_64 : decode cX7_lines 64 = .ok (.getfield 22, 3) := dk_180 0 22 (dk_at dksX7_lines_2 18 rfl rfl)
theorem dX7_lines_67 : decode cX7_lines 67 = .ok (.if_icmp .ge 11, 3) := dk_162 0 11 (dk_at dksX7_lines_2 21 rfl rfl)
theorem dX7_lines_70 : decode cX7_lines 70 = .ok (.aload_n 0, 1) := dk_42 (dk_at dksX7_lines_3 0 rfl rfl)
theorem dX7_lines_71 : decode cX7_lines 71 = .ok (.aload_n 0, 1) := dk_42 (dk_at dksX7_lines_3 1 rfl rfl)
theorem dX7_lines_72 : decode cX7_lines 72 = .ok (.getfield 19, 3) := dk_180 0 19 (dk_at dksX7_lines_3 2 rfl rfl)
theorem dX7_lines_75 : decode cX7_lines 75 = .ok (.putfield 15, 3) := dk_181 0 15 (dk_at dksX7_lines_3 5 rfl rfl)
theorem dX7_lines_78 : decode cX7_lines 78 = .ok (.aload_n 1, 1) := dk_43 (dk_at dksX7_lines_3 8 rfl rfl)
theorem dX7_lines_79 : decode cX7_lines 79 = .ok (.areturn, 1) := dk_176 (dk_at dksX7_lines_3 9 rfl rfl)
abbrev cX7_line : ByteArray := prog_23_method_6_code
def yX7_line : MethodName := ⟨RX7, "line", "()LSpeaksInTurn$Line;"⟩
def dkwX7_line_2 : List UInt8 := [180, 0, 54, 181, 0, 58, 43, 42, 182, 0, 50, 181, 0, 54, 43, 176]
abbrev dktX7_line_2 : List UInt8 := dkwX7_line_2 ++ []
def dkwX7_line_1 : List UInt8 := [182, 0, 29, 16, 63, 159, 0, 5, 43, 176, 42, 89, 180, 0, 19, 4, 96, 181, 0, 19, 43, 43]
abbrev dktX7_line_1 : List UInt8 := dkwX7_line_1 ++ dktX7_line_2
def dkwX7_line_0 : List UInt8 := [187, 0, 44, 89, 183, 0, 49, 76, 43, 42, 182, 0, 50, 181, 0, 54, 42, 180, 0, 15, 156, 0, 12, 42]
abbrev dktX7_line_0 : List UInt8 := dkwX7_line_0 ++ dktX7_line_1
theorem dksX7_line_0 : cX7_line.data.toList.drop 0 = dktX7_line_0 := by decide +kernel
theorem dksX7_line_1 : cX7_line.data.toList.drop 24 = dktX7_line_1 := dk_seg dksX7_line_0 24 rfl rfl
theorem dksX7_line_2 : cX7_line.data.toList.drop 46 = dktX7_line_2 := dk_seg dksX7_line_1 22 rfl rfl
theorem dX7_line_0 : decode cX7_line 0 = .ok (.new 44, 3) := dk_187 0 44 (dk_at dksX7_line_0 0 rfl rfl)
theorem dX7_line_3 : decode cX7_line 3 = .ok (.dup, 1) := dk_89 (dk_at dksX7_line_0 3 rfl rfl)
theorem dX7_line_4 : decode cX7_line 4 = .ok (.invokespecial 49, 3) := dk_183 0 49 (dk_at dksX7_line_0 4 rfl rfl)
theorem dX7_line_7 : decode cX7_line 7 = .ok (.astore_n 1, 1) := dk_76 (dk_at dksX7_line_0 7 rfl rfl)
theorem dX7_line_8 : decode cX7_line 8 = .ok (.aload_n 1, 1) := dk_43 (dk_at dksX7_line_0 8 rfl rfl)
theorem dX7_line_9 : decode cX7_line 9 = .ok (.aload_n 0, 1) := dk_42 (dk_at dksX7_line_0 9 rfl rfl)
theorem dX7_line_10 : decode cX7_line 10 = .ok (.invokevirtual 50, 3) := dk_182 0 50 (dk_at dksX7_line_0 10 rfl rfl)
theorem dX7_line_13 : decode cX7_line 13 = .ok (.putfield 54, 3) := dk_181 0 54 (dk_at dksX7_line_0 13 rfl rfl)
theorem dX7_line_16 : decode cX7_line 16 = .ok (.aload_n 0, 1) := dk_42 (dk_at dksX7_line_0 16 rfl rfl)
theorem dX7_line_17 : decode cX7_line 17 = .ok (.getfield 15, 3) := dk_180 0 15 (dk_at dksX7_line_0 17 rfl rfl)
theorem dX7_line_20 : decode cX7_line 20 = .ok (.ifCond .ge 12, 3) := dk_156 0 12 (dk_at dksX7_line_0 20 rfl rfl)
theorem dX7_line_23 : decode cX7_line 23 = .ok (.aload_n 0, 1) := dk_42 (dk_at dksX7_line_0 23 rfl rfl)
theorem dX7_line_24 : decode cX7_line 24 = .ok (.invokevirtual 29, 3) := dk_182 0 29 (dk_at dksX7_line_1 0 rfl rfl)
theorem dX7_line_27 : decode cX7_line 27 = .ok (.bipush 63, 2) := dk_16 63 (dk_at dksX7_line_1 3 rfl rfl)
theorem dX7_line_29 : decode cX7_line 29 = .ok (.if_icmp .eq 5, 3) := dk_159 0 5 (dk_at dksX7_line_1 5 rfl rfl)
theorem dX7_line_32 : decode cX7_line 32 = .ok (.aload_n 1, 1) := dk_43 (dk_at dksX7_line_1 8 rfl rfl)
theorem dX7_line_33 : decode cX7_line 33 = .ok (.areturn, 1) := dk_176 (dk_at dksX7_line_1 9 rfl rfl)
theorem dX7_line_34 : decode cX7_line 34 = .ok (.aload_n 0, 1) := dk_42 (dk_at dksX7_line_1 10 rfl rfl)
theorem dX7_line_35 : decode cX7_line 35 = .ok (.dup, 1) := dk_89 (dk_at dksX7_line_1 11 rfl rfl)
theorem dX7_line_36 : decode cX7_line 36 = .ok (.getfield 19, 3) := dk_180 0 19 (dk_at dksX7_line_1 12 rfl rfl)
theorem dX7_line_39 : decode cX7_line 39 = .ok (.iconst 1, 1) := dk_4 (dk_at dksX7_line_1 15 rfl rfl)
theorem dX7_line_40 : decode cX7_line 40 = .ok (.iadd, 1) := dk_96 (dk_at dksX7_line_1 16 rfl rfl)
theorem dX7_line_41 : decode cX7_line 41 = .ok (.putfield 19, 3) := dk_181 0 19 (dk_at dksX7_line_1 17 rfl rfl)
theorem dX7_line_44 : decode cX7_line 44 = .ok (.aload_n 1, 1) := dk_43 (dk_at dksX7_line_1 20 rfl rfl)
theorem dX7_line_45 : decode cX7_line 45 = .ok (.aload_n 1, 1) := dk_43 (dk_at dksX7_line_1 21 rfl rfl)
theorem dX7_line_46 : decode cX7_line 46 = .ok (.getfield 54, 3) := dk_180 0 54 (dk_at dksX7_line_2 0 rfl rfl)
theorem dX7_line_49 : decode cX7_line 49 = .ok (.putfield 58, 3) := dk_181 0 58 (dk_at dksX7_line_2 3 rfl rfl)
theorem dX7_line_52 : decode cX7_line 52 = .ok (.aload_n 1, 1) := dk_43 (dk_at dksX7_line_2 6 rfl rfl)
theorem dX7_line_53 : decode cX7_line 53 = .ok (.aload_n 0, 1) := dk_42 (dk_at dksX7_line_2 7 rfl rfl)
theorem dX7_line_54 : decode cX7_line 54 = .ok (.invokevirtual 50, 3) := dk_182 0 50 (dk_at dksX7_line_2 8 rfl rfl)
theorem dX7_line_57 : decode cX7_line 57 = .ok (.putfield 54, 3) := dk_181 0 54 (dk_at dksX7_line_2 11 rfl rfl)
theorem dX7_line_60 : decode cX7_line 60 = .ok (.aload_n 1, 1) := dk_43 (dk_at dksX7_line_2 14 rfl rfl)
theorem dX7_line_61 : decode cX7_line 61 = .ok (.areturn, 1) := dk_176 (dk_at dksX7_line_2 15 rfl rfl)
abbrev cX7_either : ByteArray := prog_23_method_8_code
def yX7_either : MethodName := ⟨RX7, "either", "()LSpeaksInTurn$Node;"⟩
def dkwX7_either_2 : List UInt8 := [176]
abbrev dktX7_either_2 : List UInt8 := dkwX7_either_2 ++ []
def dkwX7_either_1 : List UInt8 := [180, 0, 19, 4, 96, 181, 0, 19, 42, 16, 124, 43, 42, 182, 0, 66, 182, 0, 69, 76, 167, 255, 218, 43]
abbrev dktX7_either_1 : List UInt8 := dkwX7_either_1 ++ dktX7_either_2
def dkwX7_either_0 : List UInt8 := [42, 182, 0, 66, 76, 42, 180, 0, 15, 156, 0, 37, 42, 182, 0, 29, 16, 124, 160, 0, 28, 42, 89]
abbrev dktX7_either_0 : List UInt8 := dkwX7_either_0 ++ dktX7_either_1
theorem dksX7_either_0 : cX7_either.data.toList.drop 0 = dktX7_either_0 := by decide +kernel
theorem dksX7_either_1 : cX7_either.data.toList.drop 23 = dktX7_either_1 := dk_seg dksX7_either_0 23 rfl rfl
theorem dksX7_either_2 : cX7_either.data.toList.drop 47 = dktX7_either_2 := dk_seg dksX7_either_1 24 rfl rfl
theorem dX7_either_0 : decode cX7_either 0 = .ok (.aload_n 0, 1) := dk_42 (dk_at dksX7_either_0 0 rfl rfl)
theorem dX7_either_1 : decode cX7_either 1 = .ok (.invokevirtual 66, 3) := dk_182 0 66 (dk_at dksX7_either_0 1 rfl rfl)
theorem dX7_either_4 : decode cX7_either 4 = .ok (.astore_n 1, 1) := dk_76 (dk_at dksX7_either_0 4 rfl rfl)
theorem dX7_either_5 : decode cX7_either 5 = .ok (.aload_n 0, 1) := dk_42 (dk_at dksX7_either_0 5 rfl rfl)
theorem dX7_either_6 : decode cX7_either 6 = .ok (.getfield 15, 3) := dk_180 0 15 (dk_at dksX7_either_0 6 rfl rfl)
theorem dX7_either_9 : decode cX7_either 9 = .ok (.ifCond .ge 37, 3) := dk_156 0 37 (dk_at dksX7_either_0 9 rfl rfl)
theorem dX7_either_12 : decode cX7_either 12 = .ok (.aload_n 0, 1) := dk_42 (dk_at dksX7_either_0 12 rfl rfl)
theorem dX7_either_13 : decode cX7_either 13 = .ok (.invokevirtual 29, 3) := dk_182 0 29 (dk_at dksX7_either_0 13 rfl rfl)
theorem dX7_either_16 : decode cX7_either 16 = .ok (.bipush 124, 2) := dk_16 124 (dk_at dksX7_either_0 16 rfl rfl)
theorem dX7_either_18 : decode cX7_either 18 = .ok (.if_icmp .ne 28, 3) := dk_160 0 28 (dk_at dksX7_either_0 18 rfl rfl)
theorem dX7_either_21 : decode cX7_either 21 = .ok (.aload_n 0, 1) := dk_42 (dk_at dksX7_either_0 21 rfl rfl)
theorem dX7_either_22 : decode cX7_either 22 = .ok (.dup, 1) := dk_89 (dk_at dksX7_either_0 22 rfl rfl)
theorem dX7_either_23 : decode cX7_either 23 = .ok (.getfield 19, 3) := dk_180 0 19 (dk_at dksX7_either_1 0 rfl rfl)
theorem dX7_either_26 : decode cX7_either 26 = .ok (.iconst 1, 1) := dk_4 (dk_at dksX7_either_1 3 rfl rfl)
theorem dX7_either_27 : decode cX7_either 27 = .ok (.iadd, 1) := dk_96 (dk_at dksX7_either_1 4 rfl rfl)
theorem dX7_either_28 : decode cX7_either 28 = .ok (.putfield 19, 3) := dk_181 0 19 (dk_at dksX7_either_1 5 rfl rfl)
theorem dX7_either_31 : decode cX7_either 31 = .ok (.aload_n 0, 1) := dk_42 (dk_at dksX7_either_1 8 rfl rfl)
theorem dX7_either_32 : decode cX7_either 32 = .ok (.bipush 124, 2) := dk_16 124 (dk_at dksX7_either_1 9 rfl rfl)
theorem dX7_either_34 : decode cX7_either 34 = .ok (.aload_n 1, 1) := dk_43 (dk_at dksX7_either_1 11 rfl rfl)
theorem dX7_either_35 : decode cX7_either 35 = .ok (.aload_n 0, 1) := dk_42 (dk_at dksX7_either_1 12 rfl rfl)
theorem dX7_either_36 : decode cX7_either 36 = .ok (.invokevirtual 66, 3) := dk_182 0 66 (dk_at dksX7_either_1 13 rfl rfl)
theorem dX7_either_39 : decode cX7_either 39 = .ok (.invokevirtual 69, 3) := dk_182 0 69 (dk_at dksX7_either_1 16 rfl rfl)
theorem dX7_either_42 : decode cX7_either 42 = .ok (.astore_n 1, 1) := dk_76 (dk_at dksX7_either_1 19 rfl rfl)
theorem dX7_either_43 : decode cX7_either 43 = .ok (.goto (-38), 3) := dk_167 255 218 (dk_at dksX7_either_1 20 rfl rfl)
theorem dX7_either_46 : decode cX7_either 46 = .ok (.aload_n 1, 1) := dk_43 (dk_at dksX7_either_1 23 rfl rfl)
theorem dX7_either_47 : decode cX7_either 47 = .ok (.areturn, 1) := dk_176 (dk_at dksX7_either_2 0 rfl rfl)
abbrev cX7_all : ByteArray := prog_23_method_9_code
def yX7_all : MethodName := ⟨RX7, "all", "()LSpeaksInTurn$Node;"⟩
def dkwX7_all_2 : List UInt8 := [176]
abbrev dktX7_all_2 : List UInt8 := dkwX7_all_2 ++ []
def dkwX7_all_1 : List UInt8 := [180, 0, 19, 4, 96, 181, 0, 19, 42, 16, 38, 43, 42, 182, 0, 73, 182, 0, 69, 76, 167, 255, 218, 43]
abbrev dktX7_all_1 : List UInt8 := dkwX7_all_1 ++ dktX7_all_2
def dkwX7_all_0 : List UInt8 := [42, 182, 0, 73, 76, 42, 180, 0, 15, 156, 0, 37, 42, 182, 0, 29, 16, 38, 160, 0, 28, 42, 89]
abbrev dktX7_all_0 : List UInt8 := dkwX7_all_0 ++ dktX7_all_1
theorem dksX7_all_0 : cX7_all.data.toList.drop 0 = dktX7_all_0 := by decide +kernel
theorem dksX7_all_1 : cX7_all.data.toList.drop 23 = dktX7_all_1 := dk_seg dksX7_all_0 23 rfl rfl
theorem dksX7_all_2 : cX7_all.data.toList.drop 47 = dktX7_all_2 := dk_seg dksX7_all_1 24 rfl rfl
theorem dX7_all_0 : decode cX7_all 0 = .ok (.aload_n 0, 1) := dk_42 (dk_at dksX7_all_0 0 rfl rfl)
theorem dX7_all_1 : decode cX7_all 1 = .ok (.invokevirtual 73, 3) := dk_182 0 73 (dk_at dksX7_all_0 1 rfl rfl)
theorem dX7_all_4 : decode cX7_all 4 = .ok (.astore_n 1, 1) := dk_76 (dk_at dksX7_all_0 4 rfl rfl)
theorem dX7_all_5 : decode cX7_all 5 = .ok (.aload_n 0, 1) := dk_42 (dk_at dksX7_all_0 5 rfl rfl)
theorem dX7_all_6 : decode cX7_all 6 = .ok (.getfield 15, 3) := dk_180 0 15 (dk_at dksX7_all_0 6 rfl rfl)
theorem dX7_all_9 : decode cX7_all 9 = .ok (.ifCond .ge 37, 3) := dk_156 0 37 (dk_at dksX7_all_0 9 rfl rfl)
theorem dX7_all_12 : decode cX7_all 12 = .ok (.aload_n 0, 1) := dk_42 (dk_at dksX7_all_0 12 rfl rfl)
theorem dX7_all_13 : decode cX7_all 13 = .ok (.invokevirtual 29, 3) := dk_182 0 29 (dk_at dksX7_all_0 13 rfl rfl)
theorem dX7_all_16 : decode cX7_all 16 = .ok (.bipush 38, 2) := dk_16 38 (dk_at dksX7_all_0 16 rfl rfl)
theorem dX7_all_18 : decode cX7_all 18 = .ok (.if_icmp .ne 28, 3) := dk_160 0 28 (dk_at dksX7_all_0 18 rfl rfl)
theorem dX7_all_21 : decode cX7_all 21 = .ok (.aload_n 0, 1) := dk_42 (dk_at dksX7_all_0 21 rfl rfl)
theorem dX7_all_22 : decode cX7_all 22 = .ok (.dup, 1) := dk_89 (dk_at dksX7_all_0 22 rfl rfl)
theorem dX7_all_23 : decode cX7_all 23 = .ok (.getfield 19, 3) := dk_180 0 19 (dk_at dksX7_all_1 0 rfl rfl)
theorem dX7_all_26 : decode cX7_all 26 = .ok (.iconst 1, 1) := dk_4 (dk_at dksX7_all_1 3 rfl rfl)
theorem dX7_all_27 : decode cX7_all 27 = .ok (.iadd, 1) := dk_96 (dk_at dksX7_all_1 4 rfl rfl)
theorem dX7_all_28 : decode cX7_all 28 = .ok (.putfield 19, 3) := dk_181 0 19 (dk_at dksX7_all_1 5 rfl rfl)
theorem dX7_all_31 : decode cX7_all 31 = .ok (.aload_n 0, 1) := dk_42 (dk_at dksX7_all_1 8 rfl rfl)
theorem dX7_all_32 : decode cX7_all 32 = .ok (.bipush 38, 2) := dk_16 38 (dk_at dksX7_all_1 9 rfl rfl)
theorem dX7_all_34 : decode cX7_all 34 = .ok (.aload_n 1, 1) := dk_43 (dk_at dksX7_all_1 11 rfl rfl)
theorem dX7_all_35 : decode cX7_all 35 = .ok (.aload_n 0, 1) := dk_42 (dk_at dksX7_all_1 12 rfl rfl)
theorem dX7_all_36 : decode cX7_all 36 = .ok (.invokevirtual 73, 3) := dk_182 0 73 (dk_at dksX7_all_1 13 rfl rfl)
theorem dX7_all_39 : decode cX7_all 39 = .ok (.invokevirtual 69, 3) := dk_182 0 69 (dk_at dksX7_all_1 16 rfl rfl)
theorem dX7_all_42 : decode cX7_all 42 = .ok (.astore_n 1, 1) := dk_76 (dk_at dksX7_all_1 19 rfl rfl)
theorem dX7_all_43 : decode cX7_all 43 = .ok (.goto (-38), 3) := dk_167 255 218 (dk_at dksX7_all_1 20 rfl rfl)
theorem dX7_all_46 : decode cX7_all 46 = .ok (.aload_n 1, 1) := dk_43 (dk_at dksX7_all_1 23 rfl rfl)
theorem dX7_all_47 : decode cX7_all 47 = .ok (.areturn, 1) := dk_176 (dk_at dksX7_all_2 0 rfl rfl)
abbrev cX7_compared : ByteArray := prog_23_method_10_code
def yX7_compared : MethodName := ⟨RX7, "compared", "()LSpeaksInTurn$Node;"⟩
def dkwX7_compared_2 : List UInt8 := [176]
abbrev dktX7_compared_2 : List UInt8 := dkwX7_compared_2 ++ []
def dkwX7_compared_1 : List UInt8 := [182, 0, 29, 61, 42, 89, 180, 0, 19, 4, 96, 181, 0, 19, 42, 28, 43, 42, 182, 0, 76, 182, 0, 69]
abbrev dktX7_compared_1 : List UInt8 := dkwX7_compared_1 ++ dktX7_compared_2
def dkwX7_compared_0 : List UInt8 := [42, 182, 0, 76, 76, 42, 180, 0, 15, 156, 0, 12, 42, 18, 79, 182, 0, 81, 154, 0, 5, 43, 176, 42]
abbrev dktX7_compared_0 : List UInt8 := dkwX7_compared_0 ++ dktX7_compared_1
theorem dksX7_compared_0 : cX7_compared.data.toList.drop 0 = dktX7_compared_0 := by decide +kernel
theorem dksX7_compared_1 : cX7_compared.data.toList.drop 24 = dktX7_compared_1 := dk_seg dksX7_compared_0 24 rfl rfl
theorem dksX7_compared_2 : cX7_compared.data.toList.drop 48 = dktX7_compared_2 := dk_seg dksX7_compared_1 24 rfl rfl
theorem dX7_compared_0 : decode cX7_compared 0 = .ok (.aload_n 0, 1) := dk_42 (dk_at dksX7_compared_0 0 rfl rfl)
theorem dX7_compared_1 : decode cX7_compared 1 = .ok (.invokevirtual 76, 3) := dk_182 0 76 (dk_at dksX7_compared_0 1 rfl rfl)
theorem dX7_compared_4 : decode cX7_compared 4 = .ok (.astore_n 1, 1) := dk_76 (dk_at dksX7_compared_0 4 rfl rfl)
theorem dX7_compared_5 : decode cX7_compared 5 = .ok (.aload_n 0, 1) := dk_42 (dk_at dksX7_compared_0 5 rfl rfl)
theorem dX7_compared_6 : decode cX7_compared 6 = .ok (.getfield 15, 3) := dk_180 0 15 (dk_at dksX7_compared_0 6 rfl rfl)
theorem dX7_compared_9 : decode cX7_compared 9 = .ok (.ifCond .ge 12, 3) := dk_156 0 12 (dk_at dksX7_compared_0 9 rfl rfl)
theorem dX7_compared_12 : decode cX7_compared 12 = .ok (.aload_n 0, 1) := dk_42 (dk_at dksX7_compared_0 12 rfl rfl)
theorem dX7_compared_13 : decode cX7_compared 13 = .ok (.ldc 79, 2) := dk_18 79 (dk_at dksX7_compared_0 13 rfl rfl)
theorem dX7_compared_15 : decode cX7_compared 15 = .ok (.invokevirtual 81, 3) := dk_182 0 81 (dk_at dksX7_compared_0 15 rfl rfl)
theorem dX7_compared_18 : decode cX7_compared 18 = .ok (.ifCond .ne 5, 3) := dk_154 0 5 (dk_at dksX7_compared_0 18 rfl rfl)
theorem dX7_compared_21 : decode cX7_compared 21 = .ok (.aload_n 1, 1) := dk_43 (dk_at dksX7_compared_0 21 rfl rfl)
theorem dX7_compared_22 : decode cX7_compared 22 = .ok (.areturn, 1) := dk_176 (dk_at dksX7_compared_0 22 rfl rfl)
theorem dX7_compared_23 : decode cX7_compared 23 = .ok (.aload_n 0, 1) := dk_42 (dk_at dksX7_compared_0 23 rfl rfl)
theorem dX7_compared_24 : decode cX7_compared 24 = .ok (.invokevirtual 29, 3) := dk_182 0 29 (dk_at dksX7_compared_1 0 rfl rfl)
theorem dX7_compared_27 : decode cX7_compared 27 = .ok (.istore_n 2, 1) := dk_61 (dk_at dksX7_compared_1 3 rfl rfl)
theorem dX7_compared_28 : decode cX7_compared 28 = .ok (.aload_n 0, 1) := dk_42 (dk_at dksX7_compared_1 4 rfl rfl)
theorem dX7_compared_29 : decode cX7_compared 29 = .ok (.dup, 1) := dk_89 (dk_at dksX7_compared_1 5 rfl rfl)
theorem dX7_compared_30 : decode cX7_compared 30 = .ok (.getfield 19, 3) := dk_180 0 19 (dk_at dksX7_compared_1 6 rfl rfl)
theorem dX7_compared_33 : decode cX7_compared 33 = .ok (.iconst 1, 1) := dk_4 (dk_at dksX7_compared_1 9 rfl rfl)
theorem dX7_compared_34 : decode cX7_compared 34 = .ok (.iadd, 1) := dk_96 (dk_at dksX7_compared_1 10 rfl rfl)
theorem dX7_compared_35 : decode cX7_compared 35 = .ok (.putfield 19, 3) := dk_181 0 19 (dk_at dksX7_compared_1 11 rfl rfl)
theorem dX7_compared_38 : decode cX7_compared 38 = .ok (.aload_n 0, 1) := dk_42 (dk_at dksX7_compared_1 14 rfl rfl)
theorem dX7_compared_39 : decode cX7_compared 39 = .ok (.iload_n 2, 1) := dk_28 (dk_at dksX7_compared_1 15 rfl rfl)
theorem dX7_compared_40 : decode cX7_compared 40 = .ok (.aload_n 1, 1) := dk_43 (dk_at dksX7_compared_1 16 rfl rfl)
theorem dX7_compared_41 : decode cX7_compared 41 = .ok (.aload_n 0, 1) := dk_42 (dk_at dksX7_compared_1 17 rfl rfl)
theorem dX7_compared_42 : decode cX7_compared 42 = .ok (.invokevirtual 76, 3) := dk_182 0 76 (dk_at dksX7_compared_1 18 rfl rfl)
theorem dX7_compared_45 : decode cX7_compared 45 = .ok (.invokevirtual 69, 3) := dk_182 0 69 (dk_at dksX7_compared_1 21 rfl rfl)
theorem dX7_compared_48 : decode cX7_compared 48 = .ok (.areturn, 1) := dk_176 (dk_at dksX7_compared_2 0 rfl rfl)
abbrev cX7_sum : ByteArray := prog_23_method_11_code
def yX7_sum : MethodName := ⟨RX7, "sum", "()LSpeaksInTurn$Node;"⟩
def dkwX7_sum_2 : List UInt8 := [76, 167, 255, 214, 43, 176]
abbrev dktX7_sum_2 : List UInt8 := dkwX7_sum_2 ++ []
def dkwX7_sum_1 : List UInt8 := [182, 0, 29, 61, 42, 89, 180, 0, 19, 4, 96, 181, 0, 19, 42, 28, 43, 42, 182, 0, 85, 182, 0, 69]
abbrev dktX7_sum_1 : List UInt8 := dkwX7_sum_1 ++ dktX7_sum_2
def dkwX7_sum_0 : List UInt8 := [42, 182, 0, 85, 76, 42, 180, 0, 15, 156, 0, 41, 42, 18, 88, 182, 0, 81, 153, 0, 32, 42]
abbrev dktX7_sum_0 : List UInt8 := dkwX7_sum_0 ++ dktX7_sum_1
theorem dksX7_sum_0 : cX7_sum.data.toList.drop 0 = dktX7_sum_0 := by decide +kernel
theorem dksX7_sum_1 : cX7_sum.data.toList.drop 22 = dktX7_sum_1 := dk_seg dksX7_sum_0 22 rfl rfl
theorem dksX7_sum_2 : cX7_sum.data.toList.drop 46 = dktX7_sum_2 := dk_seg dksX7_sum_1 24 rfl rfl
theorem dX7_sum_0 : decode cX7_sum 0 = .ok (.aload_n 0, 1) := dk_42 (dk_at dksX7_sum_0 0 rfl rfl)
theorem dX7_sum_1 : decode cX7_sum 1 = .ok (.invokevirtual 85, 3) := dk_182 0 85 (dk_at dksX7_sum_0 1 rfl rfl)
theorem dX7_sum_4 : decode cX7_sum 4 = .ok (.astore_n 1, 1) := dk_76 (dk_at dksX7_sum_0 4 rfl rfl)
theorem dX7_sum_5 : decode cX7_sum 5 = .ok (.aload_n 0, 1) := dk_42 (dk_at dksX7_sum_0 5 rfl rfl)
theorem dX7_sum_6 : decode cX7_sum 6 = .ok (.getfield 15, 3) := dk_180 0 15 (dk_at dksX7_sum_0 6 rfl rfl)
theorem dX7_sum_9 : decode cX7_sum 9 = .ok (.ifCond .ge 41, 3) := dk_156 0 41 (dk_at dksX7_sum_0 9 rfl rfl)
theorem dX7_sum_12 : decode cX7_sum 12 = .ok (.aload_n 0, 1) := dk_42 (dk_at dksX7_sum_0 12 rfl rfl)
theorem dX7_sum_13 : decode cX7_sum 13 = .ok (.ldc 88, 2) := dk_18 88 (dk_at dksX7_sum_0 13 rfl rfl)
theorem dX7_sum_15 : decode cX7_sum 15 = .ok (.invokevirtual 81, 3) := dk_182 0 81 (dk_at dksX7_sum_0 15 rfl rfl)
theorem dX7_sum_18 : decode cX7_sum 18 = .ok (.ifCond .eq 32, 3) := dk_153 0 32 (dk_at dksX7_sum_0 18 rfl rfl)
theorem dX7_sum_21 : decode cX7_sum 21 = .ok (.aload_n 0, 1) := dk_42 (dk_at dksX7_sum_0 21 rfl rfl)
theorem dX7_sum_22 : decode cX7_sum 22 = .ok (.invokevirtual 29, 3) := dk_182 0 29 (dk_at dksX7_sum_1 0 rfl rfl)
theorem dX7_sum_25 : decode cX7_sum 25 = .ok (.istore_n 2, 1) := dk_61 (dk_at dksX7_sum_1 3 rfl rfl)
theorem dX7_sum_26 : decode cX7_sum 26 = .ok (.aload_n 0, 1) := dk_42 (dk_at dksX7_sum_1 4 rfl rfl)
theorem dX7_sum_27 : decode cX7_sum 27 = .ok (.dup, 1) := dk_89 (dk_at dksX7_sum_1 5 rfl rfl)
theorem dX7_sum_28 : decode cX7_sum 28 = .ok (.getfield 19, 3) := dk_180 0 19 (dk_at dksX7_sum_1 6 rfl rfl)
theorem dX7_sum_31 : decode cX7_sum 31 = .ok (.iconst 1, 1) := dk_4 (dk_at dksX7_sum_1 9 rfl rfl)
theorem dX7_sum_32 : decode cX7_sum 32 = .ok (.iadd, 1) := dk_96 (dk_at dksX7_sum_1 10 rfl rfl)
theorem dX7_sum_33 : decode cX7_sum 33 = .ok (.putfield 19, 3) := dk_181 0 19 (dk_at dksX7_sum_1 11 rfl rfl)
theorem dX7_sum_36 : decode cX7_sum 36 = .ok (.aload_n 0, 1) := dk_42 (dk_at dksX7_sum_1 14 rfl rfl)
theorem dX7_sum_37 : decode cX7_sum 37 = .ok (.iload_n 2, 1) := dk_28 (dk_at dksX7_sum_1 15 rfl rfl)
theorem dX7_sum_38 : decode cX7_sum 38 = .ok (.aload_n 1, 1) := dk_43 (dk_at dksX7_sum_1 16 rfl rfl)
theorem dX7_sum_39 : decode cX7_sum 39 = .ok (.aload_n 0, 1) := dk_42 (dk_at dksX7_sum_1 17 rfl rfl)
theorem dX7_sum_40 : decode cX7_sum 40 = .ok (.invokevirtual 85, 3) := dk_182 0 85 (dk_at dksX7_sum_1 18 rfl rfl)
theorem dX7_sum_43 : decode cX7_sum 43 = .ok (.invokevirtual 69, 3) := dk_182 0 69 (dk_at dksX7_sum_1 21 rfl rfl)
theorem dX7_sum_46 : decode cX7_sum 46 = .ok (.astore_n 1, 1) := dk_76 (dk_at dksX7_sum_2 0 rfl rfl)
theorem dX7_sum_47 : decode cX7_sum 47 = .ok (.goto (-42), 3) := dk_167 255 214 (dk_at dksX7_sum_2 1 rfl rfl)
theorem dX7_sum_50 : decode cX7_sum 50 = .ok (.aload_n 1, 1) := dk_43 (dk_at dksX7_sum_2 4 rfl rfl)
theorem dX7_sum_51 : decode cX7_sum 51 = .ok (.areturn, 1) := dk_176 (dk_at dksX7_sum_2 5 rfl rfl)
abbrev cX7_product : ByteArray := prog_23_method_12_code
def yX7_product : MethodName := ⟨RX7, "product", "()LSpeaksInTurn$Node;"⟩
def dkwX7_product_2 : List UInt8 := [76, 167, 255, 214, 43, 176]
abbrev dktX7_product_2 : List UInt8 := dkwX7_product_2 ++ []
def dkwX7_product_1 : List UInt8 := [182, 0, 29, 61, 42, 89, 180, 0, 19, 4, 96, 181, 0, 19, 42, 28, 43, 42, 182, 0, 90, 182, 0, 69]
abbrev dktX7_product_1 : List UInt8 := dkwX7_product_1 ++ dktX7_product_2
def dkwX7_product_0 : List UInt8 := [42, 182, 0, 90, 76, 42, 180, 0, 15, 156, 0, 41, 42, 18, 93, 182, 0, 81, 153, 0, 32, 42]
abbrev dktX7_product_0 : List UInt8 := dkwX7_product_0 ++ dktX7_product_1
theorem dksX7_product_0 : cX7_product.data.toList.drop 0 = dktX7_product_0 := by decide +kernel
theorem dksX7_product_1 : cX7_product.data.toList.drop 22 = dktX7_product_1 := dk_seg dksX7_product_0 22 rfl rfl
theorem dksX7_product_2 : cX7_product.data.toList.drop 46 = dktX7_product_2 := dk_seg dksX7_product_1 24 rfl rfl
theorem dX7_product_0 : decode cX7_product 0 = .ok (.aload_n 0, 1) := dk_42 (dk_at dksX7_product_0 0 rfl rfl)
theorem dX7_product_1 : decode cX7_product 1 = .ok (.invokevirtual 90, 3) := dk_182 0 90 (dk_at dksX7_product_0 1 rfl rfl)
theorem dX7_product_4 : decode cX7_product 4 = .ok (.astore_n 1, 1) := dk_76 (dk_at dksX7_product_0 4 rfl rfl)
theorem dX7_product_5 : decode cX7_product 5 = .ok (.aload_n 0, 1) := dk_42 (dk_at dksX7_product_0 5 rfl rfl)
theorem dX7_product_6 : decode cX7_product 6 = .ok (.getfield 15, 3) := dk_180 0 15 (dk_at dksX7_product_0 6 rfl rfl)
theorem dX7_product_9 : decode cX7_product 9 = .ok (.ifCond .ge 41, 3) := dk_156 0 41 (dk_at dksX7_product_0 9 rfl rfl)
theorem dX7_product_12 : decode cX7_product 12 = .ok (.aload_n 0, 1) := dk_42 (dk_at dksX7_product_0 12 rfl rfl)
theorem dX7_product_13 : decode cX7_product 13 = .ok (.ldc 93, 2) := dk_18 93 (dk_at dksX7_product_0 13 rfl rfl)
theorem dX7_product_15 : decode cX7_product 15 = .ok (.invokevirtual 81, 3) := dk_182 0 81 (dk_at dksX7_product_0 15 rfl rfl)
theorem dX7_product_18 : decode cX7_product 18 = .ok (.ifCond .eq 32, 3) := dk_153 0 32 (dk_at dksX7_product_0 18 rfl rfl)
theorem dX7_product_21 : decode cX7_product 21 = .ok (.aload_n 0, 1) := dk_42 (dk_at dksX7_product_0 21 rfl rfl)
theorem dX7_product_22 : decode cX7_product 22 = .ok (.invokevirtual 29, 3) := dk_182 0 29 (dk_at dksX7_product_1 0 rfl rfl)
theorem dX7_product_25 : decode cX7_product 25 = .ok (.istore_n 2, 1) := dk_61 (dk_at dksX7_product_1 3 rfl rfl)
theorem dX7_product_26 : decode cX7_product 26 = .ok (.aload_n 0, 1) := dk_42 (dk_at dksX7_product_1 4 rfl rfl)
theorem dX7_product_27 : decode cX7_product 27 = .ok (.dup, 1) := dk_89 (dk_at dksX7_product_1 5 rfl rfl)
theorem dX7_product_28 : decode cX7_product 28 = .ok (.getfield 19, 3) := dk_180 0 19 (dk_at dksX7_product_1 6 rfl rfl)
theorem dX7_product_31 : decode cX7_product 31 = .ok (.iconst 1, 1) := dk_4 (dk_at dksX7_product_1 9 rfl rfl)
theorem dX7_product_32 : decode cX7_product 32 = .ok (.iadd, 1) := dk_96 (dk_at dksX7_product_1 10 rfl rfl)
theorem dX7_product_33 : decode cX7_product 33 = .ok (.putfield 19, 3) := dk_181 0 19 (dk_at dksX7_product_1 11 rfl rfl)
theorem dX7_product_36 : decode cX7_product 36 = .ok (.aload_n 0, 1) := dk_42 (dk_at dksX7_product_1 14 rfl rfl)
theorem dX7_product_37 : decode cX7_product 37 = .ok (.iload_n 2, 1) := dk_28 (dk_at dksX7_product_1 15 rfl rfl)
theorem dX7_product_38 : decode cX7_product 38 = .ok (.aload_n 1, 1) := dk_43 (dk_at dksX7_product_1 16 rfl rfl)
theorem dX7_product_39 : decode cX7_product 39 = .ok (.aload_n 0, 1) := dk_42 (dk_at dksX7_product_1 17 rfl rfl)
theorem dX7_product_40 : decode cX7_product 40 = .ok (.invokevirtual 90, 3) := dk_182 0 90 (dk_at dksX7_product_1 18 rfl rfl)
theorem dX7_product_43 : decode cX7_product 43 = .ok (.invokevirtual 69, 3) := dk_182 0 69 (dk_at dksX7_product_1 21 rfl rfl)
theorem dX7_product_46 : decode cX7_product 46 = .ok (.astore_n 1, 1) := dk_76 (dk_at dksX7_product_2 0 rfl rfl)
theorem dX7_product_47 : decode cX7_product 47 = .ok (.goto (-42), 3) := dk_167 255 214 (dk_at dksX7_product_2 1 rfl rfl)
theorem dX7_product_50 : decode cX7_product 50 = .ok (.aload_n 1, 1) := dk_43 (dk_at dksX7_product_2 4 rfl rfl)
theorem dX7_product_51 : decode cX7_product 51 = .ok (.areturn, 1) := dk_176 (dk_at dksX7_product_2 5 rfl rfl)
abbrev cX7_operand : ByteArray := prog_23_method_14_code
def yX7_operand : MethodName := ⟨RX7, "operand", "()LSpeaksInTurn$Node;"⟩
def dkwX7_operand_11 : List UInt8 := [89, 29, 183, 0, 126, 176]
abbrev dktX7_operand_11 : List UInt8 := dkwX7_operand_11 ++ []
def dkwX7_operand_10 : List UInt8 := [42, 182, 0, 29, 16, 48, 16, 57, 184, 0, 120, 153, 0, 10, 42, 182, 0, 109, 167, 0, 11, 187, 0, 124]
abbrev dktX7_operand_10 : List UInt8 := dkwX7_operand_10 ++ dktX7_operand_11
def dkwX7_operand_9 : List UInt8 := [16, 48, 100, 62, 132, 2, 1, 42, 89, 180, 0, 19, 4, 96, 181, 0, 19, 167, 255, 211, 28, 153, 0, 17]
abbrev dktX7_operand_9 : List UInt8 := dkwX7_operand_9 ++ dktX7_operand_10
def dkwX7_operand_8 : List UInt8 := [42, 182, 0, 29, 16, 48, 16, 57, 184, 0, 120, 153, 0, 32, 16, 10, 29, 104, 42, 182, 0, 29, 96]
abbrev dktX7_operand_8 : List UInt8 := dkwX7_operand_8 ++ dktX7_operand_9
def dkwX7_operand_7 : List UInt8 := [181, 0, 19, 42, 89, 180, 0, 95, 4, 100, 181, 0, 95, 44, 176, 3, 61, 3, 62, 28, 7, 162, 0, 46]
abbrev dktX7_operand_7 : List UInt8 := dkwX7_operand_7 ++ dktX7_operand_8
def dkwX7_operand_6 : List UInt8 := [176, 42, 182, 0, 29, 16, 41, 159, 0, 8, 42, 182, 0, 109, 176, 42, 89, 180, 0, 19, 4, 96]
abbrev dktX7_operand_6 : List UInt8 := dkwX7_operand_6 ++ dktX7_operand_7
def dkwX7_operand_5 : List UInt8 := [182, 0, 105, 154, 0, 8, 42, 182, 0, 109, 176, 42, 182, 0, 50, 77, 42, 180, 0, 15, 155, 0, 5, 1]
abbrev dktX7_operand_5 : List UInt8 := dkwX7_operand_5 ++ dktX7_operand_6
def dkwX7_operand_4 : List UInt8 := [183, 0, 114, 167, 0, 11, 187, 0, 117, 89, 44, 183, 0, 119, 176, 27, 16, 40, 160, 0, 65, 42]
abbrev dktX7_operand_4 : List UInt8 := dkwX7_operand_4 ++ dktX7_operand_5
def dkwX7_operand_3 : List UInt8 := [181, 0, 95, 42, 180, 0, 15, 155, 0, 5, 1, 176, 27, 16, 33, 160, 0, 14, 187, 0, 112, 89, 44]
abbrev dktX7_operand_3 : List UInt8 := dkwX7_operand_3 ++ dktX7_operand_4
def dkwX7_operand_2 : List UInt8 := [182, 0, 105, 154, 0, 8, 42, 182, 0, 109, 176, 42, 182, 0, 90, 77, 42, 89, 180, 0, 95, 4, 100]
abbrev dktX7_operand_2 : List UInt8 := dkwX7_operand_2 ++ dktX7_operand_3
def dkwX7_operand_1 : List UInt8 := [187, 0, 100, 89, 27, 183, 0, 102, 176, 27, 16, 33, 159, 0, 9, 27, 16, 45, 160, 0, 65, 42]
abbrev dktX7_operand_1 : List UInt8 := dkwX7_operand_1 ++ dktX7_operand_2
def dkwX7_operand_0 : List UInt8 := [42, 182, 0, 29, 60, 42, 18, 98, 182, 0, 81, 153, 0, 22, 42, 89, 180, 0, 19, 4, 96, 181, 0, 19]
abbrev dktX7_operand_0 : List UInt8 := dkwX7_operand_0 ++ dktX7_operand_1
theorem dksX7_operand_0 : cX7_operand.data.toList.drop 0 = dktX7_operand_0 := by decide +kernel
theorem dksX7_operand_1 : cX7_operand.data.toList.drop 24 = dktX7_operand_1 := dk_seg dksX7_operand_0 24 rfl rfl
theorem dksX7_operand_2 : cX7_operand.data.toList.drop 46 = dktX7_operand_2 := dk_seg dksX7_operand_1 22 rfl rfl
theorem dksX7_operand_3 : cX7_operand.data.toList.drop 69 = dktX7_operand_3 := dk_seg dksX7_operand_2 23 rfl rfl
theorem dksX7_operand_4 : cX7_operand.data.toList.drop 92 = dktX7_operand_4 := dk_seg dksX7_operand_3 23 rfl rfl
theorem dksX7_operand_5 : cX7_operand.data.toList.drop 114 = dktX7_operand_5 := dk_seg dksX7_operand_4 22 rfl rfl
theorem dksX7_operand_6 : cX7_operand.data.toList.drop 138 = dktX7_operand_6 := dk_seg dksX7_operand_5 24 rfl rfl
theorem dksX7_operand_7 : cX7_operand.data.toList.drop 160 = dktX7_operand_7 := dk_seg dksX7_operand_6 22 rfl rfl
theorem dksX7_operand_8 : cX7_operand.data.toList.drop 184 = dktX7_operand_8 := dk_seg dksX7_operand_7 24 rfl rfl
theorem dksX7_operand_9 : cX7_operand.data.toList.drop 207 = dktX7_operand_9 := dk_seg dksX7_operand_8 23 rfl rfl
theorem dksX7_operand_10 : cX7_operand.data.toList.drop 231 = dktX7_operand_10 := dk_seg dksX7_operand_9 24 rfl rfl
theorem dksX7_operand_11 : cX7_operand.data.toList.drop 255 = dktX7_operand_11 := dk_seg dksX7_operand_10 24 rfl rfl
theorem dX7_operand_0 : decode cX7_operand 0 = .ok (.aload_n 0, 1) := dk_42 (dk_at dksX7_operand_0 0 rfl rfl)
theorem dX7_operand_1 : decode cX7_operand 1 = .ok (.invokevirtual 29, 3) := dk_182 0 29 (dk_at dksX7_operand_0 1 rfl rfl)
theorem dX7_operand_4 : decode cX7_operand 4 = .ok (.istore_n 1, 1) := dk_60 (dk_at dksX7_operand_0 4 rfl rfl)
theorem dX7_operand_5 : decode cX7_operand 5 = .ok (.aload_n 0, 1) := dk_42 (dk_at dksX7_operand_0 5 rfl rfl)
theorem dX7_operand_6 : decode cX7_operand 6 = .ok (.ldc 98, 2) := dk_18 98 (dk_at dksX7_operand_0 6 rfl rfl)
theorem dX7_operand_8 : decode cX7_operand 8 = .ok (.invokevirtual 81, 3) := dk_182 0 81 (dk_at dksX7_operand_0 8 rfl rfl)
theorem dX7_operand_11 : decode cX7_operand 11 = .ok (.ifCond .eq 22, 3) := dk_153 0 22 (dk_at dksX7_operand_0 11 rfl rfl)
theorem dX7_operand_14 : decode cX7_operand 14 = .ok (.aload_n 0, 1) := dk_42 (dk_at dksX7_operand_0 14 rfl rfl)
theorem dX7_operand_15 : decode cX7_operand 15 = .ok (.dup, 1) := dk_89 (dk_at dksX7_operand_0 15 rfl rfl)
theorem dX7_operand_16 : decode cX7_operand 16 = .ok (.getfield 19, 3) := dk_180 0 19 (dk_at dksX7_operand_0 16 rfl rfl)
theorem dX7_operand_19 : decode cX7_operand 19 = .ok (.iconst 1, 1) := dk_4 (dk_at dksX7_operand_0 19 rfl rfl)
theorem dX7_operand_20 : decode cX7_operand 20 = .ok (.iadd, 1) := dk_96 (dk_at dksX7_operand_0 20 rfl rfl)
theorem dX7_operand_21 : decode cX7_operand 21 = .ok (.putfield 19, 3) := dk_181 0 19 (dk_at dksX7_operand_0 21 rfl rfl)
theorem dX7_operand_24 : decode cX7_operand 24 = .ok (.new 100, 3) := dk_187 0 100 (dk_at dksX7_operand_1 0 rfl rfl)
theorem dX7_operand_27 : decode cX7_operand 27 = .ok (.dup, 1) := dk_89 (dk_at dksX7_operand_1 3 rfl rfl)
theorem dX7_operand_28 : decode cX7_operand 28 = .ok (.iload_n 1, 1) := dk_27 (dk_at dksX7_operand_1 4 rfl rfl)
theorem dX7_operand_29 : decode cX7_operand 29 = .ok (.invokespecial 102, 3) := dk_183 0 102 (dk_at dksX7_operand_1 5 rfl rfl)
theorem dX7_operand_32 : decode cX7_operand 32 = .ok (.areturn, 1) := dk_176 (dk_at dksX7_operand_1 8 rfl rfl)
theorem dX7_operand_33 : decode cX7_operand 33 = .ok (.iload_n 1, 1) := dk_27 (dk_at dksX7_operand_1 9 rfl rfl)
theorem dX7_operand_34 : decode cX7_operand 34 = .ok (.bipush 33, 2) := dk_16 33 (dk_at dksX7_operand_1 10 rfl rfl)
theorem dX7_operand_36 : decode cX7_operand 36 = .ok (.if_icmp .eq 9, 3) := dk_159 0 9 (dk_at dksX7_operand_1 12 rfl rfl)
theorem dX7_operand_39 : decode cX7_operand 39 = .ok (.iload_n 1, 1) := dk_27 (dk_at dksX7_operand_1 15 rfl rfl)
theorem dX7_operand_40 : decode cX7_operand 40 = .ok (.bipush 45, 2) := dk_16 45 (dk_at dksX7_operand_1 16 rfl rfl)
theorem dX7_operand_42 : decode cX7_operand 42 = .ok (.if_icmp .ne 65, 3) := dk_160 0 65 (dk_at dksX7_operand_1 18 rfl rfl)
theorem dX7_operand_45 : decode cX7_operand 45 = .ok (.aload_n 0, 1) := dk_42 (dk_at dksX7_operand_1 21 rfl rfl)
theorem dX7_operand_46 : decode cX7_operand 46 = .ok (.invokevirtual 105, 3) := dk_182 0 105 (dk_at dksX7_operand_2 0 rfl rfl)
theorem dX7_operand_49 : decode cX7_operand 49 = .ok (.ifCond .ne 8, 3) := dk_154 0 8 (dk_at dksX7_operand_2 3 rfl rfl)
theorem dX7_operand_52 : decode cX7_operand 52 = .ok (.aload_n 0, 1) := dk_42 (dk_at dksX7_operand_2 6 rfl rfl)
theorem dX7_operand_53 : decode cX7_operand 53 = .ok (.invokevirtual 109, 3) := dk_182 0 109 (dk_at dksX7_operand_2 7 rfl rfl)
theorem dX7_operand_56 : decode cX7_operand 56 = .ok (.areturn, 1) := dk_176 (dk_at dksX7_operand_2 10 rfl rfl)
theorem dX7_operand_57 : decode cX7_operand 57 = .ok (.aload_n 0, 1) := dk_42 (dk_at dksX7_operand_2 11 rfl rfl)
theorem dX7_operand_58 : decode cX7_operand 58 = .ok (.invokevirtual 90, 3) := dk_182 0 90 (dk_at dksX7_operand_2 12 rfl rfl)
theorem dX7_operand_61 : decode cX7_operand 61 = .ok (.astore_n 2, 1) := dk_77 (dk_at dksX7_operand_2 15 rfl rfl)
theorem dX7_operand_62 : decode cX7_operand 62 = .ok (.aload_n 0, 1) := dk_42 (dk_at dksX7_operand_2 16 rfl rfl)
theorem dX7_operand_63 : decode cX7_operand 63 = .ok (.dup, 1) := dk_89 (dk_at dksX7_operand_2 17 rfl rfl)
theorem dX7_operand_64 : decode cX7_operand 64 = .ok (.getfield 95, 3) := dk_180 0 95 (dk_at dksX7_operand_2 18 rfl rfl)
theorem dX7_operand_67 : decode cX7_operand 67 = .ok (.iconst 1, 1) := dk_4 (dk_at dksX7_operand_2 21 rfl rfl)
theorem dX7_operand_68 : decode cX7_operand 68 = .ok (.isub, 1) := dk_100 (dk_at dksX7_operand_2 22 rfl rfl)
theorem dX7_operand_69 : decode cX7_operand 69 = .ok (.putfield 95, 3) := dk_181 0 95 (dk_at dksX7_operand_3 0 rfl rfl)
theorem dX7_operand_72 : decode cX7_operand 72 = .ok (.aload_n 0, 1) := dk_42 (dk_at dksX7_operand_3 3 rfl rfl)
theorem dX7_operand_73 : decode cX7_operand 73 = .ok (.getfield 15, 3) := dk_180 0 15 (dk_at dksX7_operand_3 4 rfl rfl)
theorem dX7_operand_76 : decode cX7_operand 76 = .ok (.ifCond .lt 5, 3) := dk_155 0 5 (dk_at dksX7_operand_3 7 rfl rfl)
theorem dX7_operand_79 : decode cX7_operand 79 = .ok (.aconst_null, 1) := dk_1 (dk_at dksX7_operand_3 10 rfl rfl)
theorem dX7_operand_80 : decode cX7_operand 80 = .ok (.areturn, 1) := dk_176 (dk_at dksX7_operand_3 11 rfl rfl)
theorem dX7_operand_81 : decode cX7_operand 81 = .ok (.iload_n 1, 1) := dk_27 (dk_at dksX7_operand_3 12 rfl rfl)
theorem dX7_operand_82 : decode cX7_operand 82 = .ok (.bipush 33, 2) := dk_16 33 (dk_at dksX7_operand_3 13 rfl rfl)
theorem dX7_operand_84 : decode cX7_operand 84 = .ok (.if_icmp .ne 14, 3) := dk_160 0 14 (dk_at dksX7_operand_3 15 rfl rfl)
theorem dX7_operand_87 : decode cX7_operand 87 = .ok (.new 112, 3) := dk_187 0 112 (dk_at dksX7_operand_3 18 rfl rfl)
theorem dX7_operand_90 : decode cX7_operand 90 = .ok (.dup, 1) := dk_89 (dk_at dksX7_operand_3 21 rfl rfl)
theorem dX7_operand_91 : decode cX7_operand 91 = .ok (.aload_n 2, 1) := dk_44 (dk_at dksX7_operand_3 22 rfl rfl)
theorem dX7_operand_92 : decode cX7_operand 92 = .ok (.invokespecial 114, 3) := dk_183 0 114 (dk_at dksX7_operand_4 0 rfl rfl)
theorem dX7_operand_95 : decode cX7_operand 95 = .ok (.goto 11, 3) := dk_167 0 11 (dk_at dksX7_operand_4 3 rfl rfl)
theorem dX7_operand_98 : decode cX7_operand 98 = .ok (.new 117, 3) := dk_187 0 117 (dk_at dksX7_operand_4 6 rfl rfl)
theorem dX7_operand_101 : decode cX7_operand 101 = .ok (.dup, 1) := dk_89 (dk_at dksX7_operand_4 9 rfl rfl)
theorem dX7_operand_102 : decode cX7_operand 102 = .ok (.aload_n 2, 1) := dk_44 (dk_at dksX7_operand_4 10 rfl rfl)
theorem dX7_operand_103 : decode cX7_operand 103 = .ok (.invokespecial 119, 3) := dk_183 0 119 (dk_at dksX7_operand_4 11 rfl rfl)
theorem dX7_operand_106 : decode cX7_operand 106 = .ok (.areturn, 1) := dk_176 (dk_at dksX7_operand_4 14 rfl rfl)
theorem dX7_operand_107 : decode cX7_operand 107 = .ok (.iload_n 1, 1) := dk_27 (dk_at dksX7_operand_4 15 rfl rfl)
theorem dX7_operand_108 : decode cX7_operand 108 = .ok (.bipush 40, 2) := dk_16 40 (dk_at dksX7_operand_4 16 rfl rfl)
theorem dX7_operand_110 : decode cX7_operand 110 = .ok (.if_icmp .ne 65, 3) := dk_160 0 65 (dk_at dksX7_operand_4 18 rfl rfl)
theorem dX7_operand_113 : decode cX7_operand 113 = .ok (.aload_n 0, 1) := dk_42 (dk_at dksX7_operand_4 21 rfl rfl)
theorem dX7_operand_114 : decode cX7_operand 114 = .ok (.invokevirtual 105, 3) := dk_182 0 105 (dk_at dksX7_operand_5 0 rfl rfl)
theorem dX7_operand_117 : decode cX7_operand 117 = .ok (.ifCond .ne 8, 3) := dk_154 0 8 (dk_at dksX7_operand_5 3 rfl rfl)
theorem dX7_operand_120 : decode cX7_operand 120 = .ok (.aload_n 0, 1) := dk_42 (dk_at dksX7_operand_5 6 rfl rfl)
theorem dX7_operand_121 : decode cX7_operand 121 = .ok (.invokevirtual 109, 3) := dk_182 0 109 (dk_at dksX7_operand_5 7 rfl rfl)
theorem dX7_operand_124 : decode cX7_operand 124 = .ok (.areturn, 1) := dk_176 (dk_at dksX7_operand_5 10 rfl rfl)
theorem dX7_operand_125 : decode cX7_operand 125 = .ok (.aload_n 0, 1) := dk_42 (dk_at dksX7_operand_5 11 rfl rfl)
theorem dX7_operand_126 : decode cX7_operand 126 = .ok (.invokevirtual 50, 3) := dk_182 0 50 (dk_at dksX7_operand_5 12 rfl rfl)
theorem dX7_operand_129 : decode cX7_operand 129 = .ok (.astore_n 2, 1) := dk_77 (dk_at dksX7_operand_5 15 rfl rfl)
theorem dX7_operand_130 : decode cX7_operand 130 = .ok (.aload_n 0, 1) := dk_42 (dk_at dksX7_operand_5 16 rfl rfl)
theorem dX7_operand_131 : decode cX7_operand 131 = .ok (.getfield 15, 3) := dk_180 0 15 (dk_at dksX7_operand_5 17 rfl rfl)
theorem dX7_operand_134 : decode cX7_operand 134 = .ok (.ifCond .lt 5, 3) := dk_155 0 5 (dk_at dksX7_operand_5 20 rfl rfl)
theorem dX7_operand_137 : decode cX7_operand 137 = .ok (.aconst_null, 1) := dk_1 (dk_at dksX7_operand_5 23 rfl rfl)
theorem dX7_operand_138 : decode cX7_operand 138 = .ok (.areturn, 1) := dk_176 (dk_at dksX7_operand_6 0 rfl rfl)
theorem dX7_operand_139 : decode cX7_operand 139 = .ok (.aload_n 0, 1) := dk_42 (dk_at dksX7_operand_6 1 rfl rfl)
theorem dX7_operand_140 : decode cX7_operand 140 = .ok (.invokevirtual 29, 3) := dk_182 0 29 (dk_at dksX7_operand_6 2 rfl rfl)
theorem dX7_operand_143 : decode cX7_operand 143 = .ok (.bipush 41, 2) := dk_16 41 (dk_at dksX7_operand_6 5 rfl rfl)
theorem dX7_operand_145 : decode cX7_operand 145 = .ok (.if_icmp .eq 8, 3) := dk_159 0 8 (dk_at dksX7_operand_6 7 rfl rfl)
theorem dX7_operand_148 : decode cX7_operand 148 = .ok (.aload_n 0, 1) := dk_42 (dk_at dksX7_operand_6 10 rfl rfl)
theorem dX7_operand_149 : decode cX7_operand 149 = .ok (.invokevirtual 109, 3) := dk_182 0 109 (dk_at dksX7_operand_6 11 rfl rfl)
theorem dX7_operand_152 : decode cX7_operand 152 = .ok (.areturn, 1) := dk_176 (dk_at dksX7_operand_6 14 rfl rfl)
theorem dX7_operand_153 : decode cX7_operand 153 = .ok (.aload_n 0, 1) := dk_42 (dk_at dksX7_operand_6 15 rfl rfl)
theorem dX7_operand_154 : decode cX7_operand 154 = .ok (.dup, 1) := dk_89 (dk_at dksX7_operand_6 16 rfl rfl)
theorem dX7_operand_155 : decode cX7_operand 155 = .ok (.getfield 19, 3) := dk_180 0 19 (dk_at dksX7_operand_6 17 rfl rfl)
theorem dX7_operand_158 : decode cX7_operand 158 = .ok (.iconst 1, 1) := dk_4 (dk_at dksX7_operand_6 20 rfl rfl)
theorem dX7_operand_159 : decode cX7_operand 159 = .ok (.iadd, 1) := dk_96 (dk_at dksX7_operand_6 21 rfl rfl)
theorem dX7_operand_160 : decode cX7_operand 160 = .ok (.putfield 19, 3) := dk_181 0 19 (dk_at dksX7_operand_7 0 rfl rfl)
theorem dX7_operand_163 : decode cX7_operand 163 = .ok (.aload_n 0, 1) := dk_42 (dk_at dksX7_operand_7 3 rfl rfl)
theorem dX7_operand_164 : decode cX7_operand 164 = .ok (.dup, 1) := dk_89 (dk_at dksX7_operand_7 4 rfl rfl)
theorem dX7_operand_165 : decode cX7_operand 165 = .ok (.getfield 95, 3) := dk_180 0 95 (dk_at dksX7_operand_7 5 rfl rfl)
theorem dX7_operand_168 : decode cX7_operand 168 = .ok (.iconst 1, 1) := dk_4 (dk_at dksX7_operand_7 8 rfl rfl)
theorem dX7_operand_169 : decode cX7_operand 169 = .ok (.isub, 1) := dk_100 (dk_at dksX7_operand_7 9 rfl rfl)
theorem dX7_operand_170 : decode cX7_operand 170 = .ok (.putfield 95, 3) := dk_181 0 95 (dk_at dksX7_operand_7 10 rfl rfl)
theorem dX7_operand_173 : decode cX7_operand 173 = .ok (.aload_n 2, 1) := dk_44 (dk_at dksX7_operand_7 13 rfl rfl)
theorem dX7_operand_174 : decode cX7_operand 174 = .ok (.areturn, 1) := dk_176 (dk_at dksX7_operand_7 14 rfl rfl)
theorem dX7_operand_175 : decode cX7_operand 175 = .ok (.iconst 0, 1) := dk_3 (dk_at dksX7_operand_7 15 rfl rfl)
theorem dX7_operand_176 : decode cX7_operand 176 = .ok (.istore_n 2, 1) := dk_61 (dk_at dksX7_operand_7 16 rfl rfl)
theorem dX7_operand_177 : decode cX7_operand 177 = .ok (.iconst 0, 1) := dk_3 (dk_at dksX7_operand_7 17 rfl rfl)
theorem dX7_operand_178 : decode cX7_operand 178 = .ok (.istore_n 3, 1) := dk_62 (dk_at dksX7_operand_7 18 rfl rfl)
theorem dX7_operand_179 : decode cX7_operand 179 = .ok (.iload_n 2, 1) := dk_28 (dk_at dksX7_operand_7 19 rfl rfl)
theorem dX7_operand_180 : decode cX7_operand 180 = .ok (.iconst 4, 1) := dk_7 (dk_at dksX7_operand_7 20 rfl rfl)
theorem dX7_operand_181 : decode cX7_operand 181 = .ok (.if_icmp .ge 46, 3) := dk_162 0 46 (dk_at dksX7_operand_7 21 rfl rfl)
theorem dX7_operand_184 : decode cX7_operand 184 = .ok (.aload_n 0, 1) := dk_42 (dk_at dksX7_operand_8 0 rfl rfl)
theorem dX7_operand_185 : decode cX7_operand 185 = .ok (.invokevirtual 29, 3) := dk_182 0 29 (dk_at dksX7_operand_8 1 rfl rfl)
theorem dX7_operand_188 : decode cX7_operand 188 = .ok (.bipush 48, 2) := dk_16 48 (dk_at dksX7_operand_8 4 rfl rfl)
theorem dX7_operand_190 : decode cX7_operand 190 = .ok (.bipush 57, 2) := dk_16 57 (dk_at dksX7_operand_8 6 rfl rfl)
theorem dX7_operand_192 : decode cX7_operand 192 = .ok (.invokestatic 120, 3) := dk_184 0 120 (dk_at dksX7_operand_8 8 rfl rfl)
theorem dX7_operand_195 : decode cX7_operand 195 = .ok (.ifCond .eq 32, 3) := dk_153 0 32 (dk_at dksX7_operand_8 11 rfl rfl)
theorem dX7_operand_198 : decode cX7_operand 198 = .ok (.bipush 10, 2) := dk_16 10 (dk_at dksX7_operand_8 14 rfl rfl)
theorem dX7_operand_200 : decode cX7_operand 200 = .ok (.iload_n 3, 1) := dk_29 (dk_at dksX7_operand_8 16 rfl rfl)
theorem dX7_operand_201 : decode cX7_operand 201 = .ok (.imul, 1) := dk_104 (dk_at dksX7_operand_8 17 rfl rfl)
theorem dX7_operand_202 : decode cX7_operand 202 = .ok (.aload_n 0, 1) := dk_42 (dk_at dksX7_operand_8 18 rfl rfl)
theorem dX7_operand_203 : decode cX7_operand 203 = .ok (.invokevirtual 29, 3) := dk_182 0 29 (dk_at dksX7_operand_8 19 rfl rfl)
theorem dX7_operand_206 : decode cX7_operand 206 = .ok (.iadd, 1) := dk_96 (dk_at dksX7_operand_8 22 rfl rfl)
theorem dX7_operand_207 : decode cX7_operand 207 = .ok (.bipush 48, 2) := dk_16 48 (dk_at dksX7_operand_9 0 rfl rfl)
theorem dX7_operand_209 : decode cX7_operand 209 = .ok (.isub, 1) := dk_100 (dk_at dksX7_operand_9 2 rfl rfl)
theorem dX7_operand_210 : decode cX7_operand 210 = .ok (.istore_n 3, 1) := dk_62 (dk_at dksX7_operand_9 3 rfl rfl)
theorem dX7_operand_211 : decode cX7_operand 211 = .ok (.iinc 2 1, 3) := dk_132 2 1 (dk_at dksX7_operand_9 4 rfl rfl)
theorem dX7_operand_214 : decode cX7_operand 214 = .ok (.aload_n 0, 1) := dk_42 (dk_at dksX7_operand_9 7 rfl rfl)
theorem dX7_operand_215 : decode cX7_operand 215 = .ok (.dup, 1) := dk_89 (dk_at dksX7_operand_9 8 rfl rfl)
theorem dX7_operand_216 : decode cX7_operand 216 = .ok (.getfield 19, 3) := dk_180 0 19 (dk_at dksX7_operand_9 9 rfl rfl)
theorem dX7_operand_219 : decode cX7_operand 219 = .ok (.iconst 1, 1) := dk_4 (dk_at dksX7_operand_9 12 rfl rfl)
theorem dX7_operand_220 : decode cX7_operand 220 = .ok (.iadd, 1) := dk_96 (dk_at dksX7_operand_9 13 rfl rfl)
theorem dX7_operand_221 : decode cX7_operand 221 = .ok (.putfield 19, 3) := dk_181 0 19 (dk_at dksX7_operand_9 14 rfl rfl)
theorem dX7_operand_224 : decode cX7_operand 224 = .ok (.goto (-45), 3) := dk_167 255 211 (dk_at dksX7_operand_9 17 rfl rfl)
theorem dX7_operand_227 : decode cX7_operand 227 = .ok (.iload_n 2, 1) := dk_28 (dk_at dksX7_operand_9 20 rfl rfl)
theorem dX7_operand_228 : decode cX7_operand 228 = .ok (.ifCond .eq 17, 3) := dk_153 0 17 (dk_at dksX7_operand_9 21 rfl rfl)
theorem dX7_operand_231 : decode cX7_operand 231 = .ok (.aload_n 0, 1) := dk_42 (dk_at dksX7_operand_10 0 rfl rfl)
theorem dX7_operand_232 : decode cX7_operand 232 = .ok (.invokevirtual 29, 3) := dk_182 0 29 (dk_at dksX7_operand_10 1 rfl rfl)
theorem dX7_operand_235 : decode cX7_operand 235 = .ok (.bipush 48, 2) := dk_16 48 (dk_at dksX7_operand_10 4 rfl rfl)
theorem dX7_operand_237 : decode cX7_operand 237 = .ok (.bipush 57, 2) := dk_16 57 (dk_at dksX7_operand_10 6 rfl rfl)
theorem dX7_operand_239 : decode cX7_operand 239 = .ok (.invokestatic 120, 3) := dk_184 0 120 (dk_at dksX7_operand_10 8 rfl rfl)
theorem dX7_operand_242 : decode cX7_operand 242 = .ok (.ifCond .eq 10, 3) := dk_153 0 10 (dk_at dksX7_operand_10 11 rfl rfl)
theorem dX7_operand_245 : decode cX7_operand 245 = .ok (.aload_n 0, 1) := dk_42 (dk_at dksX7_operand_10 14 rfl rfl)
theorem dX7_operand_246 : decode cX7_operand 246 = .ok (.invokevirtual 109, 3) := dk_182 0 109 (dk_at dksX7_operand_10 15 rfl rfl)
theorem dX7_operand_249 : decode cX7_operand 249 = .ok (.goto 11, 3) := dk_167 0 11 (dk_at dksX7_operand_10 18 rfl rfl)
theorem dX7_operand_252 : decode cX7_operand 252 = .ok (.new 124, 3) := dk_187 0 124 (dk_at dksX7_operand_10 21 rfl rfl)
theorem dX7_operand_255 : decode cX7_operand 255 = .ok (.dup, 1) := dk_89 (dk_at dksX7_operand_11 0 rfl rfl)
theorem dX7_operand_256 : decode cX7_operand 256 = .ok (.iload_n 3, 1) := dk_29 (dk_at dksX7_operand_11 1 rfl rfl)
theorem dX7_operand_257 : decode cX7_operand 257 = .ok (.invokespecial 126, 3) := dk_183 0 126 (dk_at dksX7_operand_11 2 rfl rfl)
theorem dX7_operand_260 : decode cX7_operand 260 = .ok (.areturn, 1) := dk_176 (dk_at dksX7_operand_11 5 rfl rfl)
abbrev cX7_here : ByteArray := prog_23_method_2_code
def yX7_here : MethodName := ⟨RX7, "here", "()I"⟩
def dkwX7_here_1 : List UInt8 := [180, 0, 19, 51, 167, 0, 4, 2, 172]
abbrev dktX7_here_1 : List UInt8 := dkwX7_here_1 ++ []
def dkwX7_here_0 : List UInt8 := [42, 180, 0, 19, 42, 180, 0, 3, 180, 0, 22, 162, 0, 18, 42, 180, 0, 3, 180, 0, 25, 42]
abbrev dktX7_here_0 : List UInt8 := dkwX7_here_0 ++ dktX7_here_1
theorem dksX7_here_0 : cX7_here.data.toList.drop 0 = dktX7_here_0 := by decide +kernel
theorem dksX7_here_1 : cX7_here.data.toList.drop 22 = dktX7_here_1 := dk_seg dksX7_here_0 22 rfl rfl
theorem dX7_here_0 : decode cX7_here 0 = .ok (.aload_n 0, 1) := dk_42 (dk_at dksX7_here_0 0 rfl rfl)
theorem dX7_here_1 : decode cX7_here 1 = .ok (.getfield 19, 3) := dk_180 0 19 (dk_at dksX7_here_0 1 rfl rfl)
theorem dX7_here_4 : decode cX7_here 4 = .ok (.aload_n 0, 1) := dk_42 (dk_at dksX7_here_0 4 rfl rfl)
theorem dX7_here_5 : decode cX7_here 5 = .ok (.getfield 3, 3) := dk_180 0 3 (dk_at dksX7_here_0 5 rfl rfl)
theorem dX7_here_8 : decode cX7_here 8 = .ok (.getfield 22, 3) := dk_180 0 22 (dk_at dksX7_here_0 8 rfl rfl)
theorem dX7_here_11 : decode cX7_here 11 = .ok (.if_icmp .ge 18, 3) := dk_162 0 18 (dk_at dksX7_here_0 11 rfl rfl)
theorem dX7_here_14 : decode cX7_here 14 = .ok (.aload_n 0, 1) := dk_42 (dk_at dksX7_here_0 14 rfl rfl)
theorem dX7_here_15 : decode cX7_here 15 = .ok (.getfield 3, 3) := dk_180 0 3 (dk_at dksX7_here_0 15 rfl rfl)
theorem dX7_here_18 : decode cX7_here 18 = .ok (.getfield 25, 3) := dk_180 0 25 (dk_at dksX7_here_0 18 rfl rfl)
theorem dX7_here_21 : decode cX7_here 21 = .ok (.aload_n 0, 1) := dk_42 (dk_at dksX7_here_0 21 rfl rfl)
theorem dX7_here_22 : decode cX7_here 22 = .ok (.getfield 19, 3) := dk_180 0 19 (dk_at dksX7_here_1 0 rfl rfl)
theorem dX7_here_25 : decode cX7_here 25 = .ok (.baload, 1) := dk_51 (dk_at dksX7_here_1 3 rfl rfl)
theorem dX7_here_26 : decode cX7_here 26 = .ok (.goto 4, 3) := dk_167 0 4 (dk_at dksX7_here_1 4 rfl rfl)
theorem dX7_here_29 : decode cX7_here 29 = .ok (.iconst (-1), 1) := dk_2 (dk_at dksX7_here_1 7 rfl rfl)
theorem dX7_here_30 : decode cX7_here 30 = .ok (.ireturn, 1) := dk_172 (dk_at dksX7_here_1 8 rfl rfl)
abbrev cX7_isOne : ByteArray := prog_23_method_3_code
def yX7_isOne : MethodName := ⟨RX7, "isOne", "(Ljava/lang/String;)Z"⟩
def dkwX7_isOne_0 : List UInt8 := [42, 182, 0, 29, 155, 0, 18, 43, 42, 182, 0, 29, 182, 0, 33, 155, 0, 7, 4, 167, 0, 4, 3, 172]
abbrev dktX7_isOne_0 : List UInt8 := dkwX7_isOne_0 ++ []
theorem dksX7_isOne_0 : cX7_isOne.data.toList.drop 0 = dktX7_isOne_0 := by decide +kernel
theorem dX7_isOne_0 : decode cX7_isOne 0 = .ok (.aload_n 0, 1) := dk_42 (dk_at dksX7_isOne_0 0 rfl rfl)
theorem dX7_isOne_1 : decode cX7_isOne 1 = .ok (.invokevirtual 29, 3) := dk_182 0 29 (dk_at dksX7_isOne_0 1 rfl rfl)
theorem dX7_isOne_4 : decode cX7_isOne 4 = .ok (.ifCond .lt 18, 3) := dk_155 0 18 (dk_at dksX7_isOne_0 4 rfl rfl)
theorem dX7_isOne_7 : decode cX7_isOne 7 = .ok (.aload_n 1, 1) := dk_43 (dk_at dksX7_isOne_0 7 rfl rfl)
theorem dX7_isOne_8 : decode cX7_isOne 8 = .ok (.aload_n 0, 1) := dk_42 (dk_at dksX7_isOne_0 8 rfl rfl)
theorem dX7_isOne_9 : decode cX7_isOne 9 = .ok (.invokevirtual 29, 3) := dk_182 0 29 (dk_at dksX7_isOne_0 9 rfl rfl)
theorem dX7_isOne_12 : decode cX7_isOne 12 = .ok (.invokevirtual 33, 3) := dk_182 0 33 (dk_at dksX7_isOne_0 12 rfl rfl)
theorem dX7_isOne_15 : decode cX7_isOne 15 = .ok (.ifCond .lt 7, 3) := dk_155 0 7 (dk_at dksX7_isOne_0 15 rfl rfl)
theorem dX7_isOne_18 : decode cX7_isOne 18 = .ok (.iconst 1, 1) := dk_4 (dk_at dksX7_isOne_0 18 rfl rfl)
theorem dX7_isOne_19 : decode cX7_isOne 19 = .ok (.goto 4, 3) := dk_167 0 4 (dk_at dksX7_isOne_0 19 rfl rfl)
theorem dX7_isOne_22 : decode cX7_isOne 22 = .ok (.iconst 0, 1) := dk_3 (dk_at dksX7_isOne_0 22 rfl rfl)
theorem dX7_isOne_23 : decode cX7_isOne 23 = .ok (.ireturn, 1) := dk_172 (dk_at dksX7_isOne_0 23 rfl rfl)
abbrev cX7_opens : ByteArray := prog_23_method_13_code
def yX7_opens : MethodName := ⟨RX7, "opens", "()Z"⟩
def dkwX7_opens_1 : List UInt8 := [180, 0, 19, 4, 96, 181, 0, 19, 4, 172]
abbrev dktX7_opens_1 : List UInt8 := dkwX7_opens_1 ++ []
def dkwX7_opens_0 : List UInt8 := [42, 180, 0, 95, 16, 6, 160, 0, 5, 3, 172, 42, 89, 180, 0, 95, 4, 96, 181, 0, 95, 42, 89]
abbrev dktX7_opens_0 : List UInt8 := dkwX7_opens_0 ++ dktX7_opens_1
theorem dksX7_opens_0 : cX7_opens.data.toList.drop 0 = dktX7_opens_0 := by decide +kernel
theorem dksX7_opens_1 : cX7_opens.data.toList.drop 23 = dktX7_opens_1 := dk_seg dksX7_opens_0 23 rfl rfl
theorem dX7_opens_0 : decode cX7_opens 0 = .ok (.aload_n 0, 1) := dk_42 (dk_at dksX7_opens_0 0 rfl rfl)
theorem dX7_opens_1 : decode cX7_opens 1 = .ok (.getfield 95, 3) := dk_180 0 95 (dk_at dksX7_opens_0 1 rfl rfl)
theorem dX7_opens_4 : decode cX7_opens 4 = .ok (.bipush 6, 2) := dk_16 6 (dk_at dksX7_opens_0 4 rfl rfl)
theorem dX7_opens_6 : decode cX7_opens 6 = .ok (.if_icmp .ne 5, 3) := dk_160 0 5 (dk_at dksX7_opens_0 6 rfl rfl)
theorem dX7_opens_9 : decode cX7_opens 9 = .ok (.iconst 0, 1) := dk_3 (dk_at dksX7_opens_0 9 rfl rfl)
theorem dX7_opens_10 : decode cX7_opens 10 = .ok (.ireturn, 1) := dk_172 (dk_at dksX7_opens_0 10 rfl rfl)
theorem dX7_opens_11 : decode cX7_opens 11 = .ok (.aload_n 0, 1) := dk_42 (dk_at dksX7_opens_0 11 rfl rfl)
theorem dX7_opens_12 : decode cX7_opens 12 = .ok (.dup, 1) := dk_89 (dk_at dksX7_opens_0 12 rfl rfl)
theorem dX7_opens_13 : decode cX7_opens 13 = .ok (.getfield 95, 3) := dk_180 0 95 (dk_at dksX7_opens_0 13 rfl rfl)
theorem dX7_opens_16 : decode cX7_opens 16 = .ok (.iconst 1, 1) := dk_4 (dk_at dksX7_opens_0 16 rfl rfl)
theorem dX7_opens_17 : decode cX7_opens 17 = .ok (.iadd, 1) := dk_96 (dk_at dksX7_opens_0 17 rfl rfl)
theorem dX7_opens_18 : decode cX7_opens 18 = .ok (.putfield 95, 3) := dk_181 0 95 (dk_at dksX7_opens_0 18 rfl rfl)
theorem dX7_opens_21 : decode cX7_opens 21 = .ok (.aload_n 0, 1) := dk_42 (dk_at dksX7_opens_0 21 rfl rfl)
theorem dX7_opens_22 : decode cX7_opens 22 = .ok (.dup, 1) := dk_89 (dk_at dksX7_opens_0 22 rfl rfl)
theorem dX7_opens_23 : decode cX7_opens 23 = .ok (.getfield 19, 3) := dk_180 0 19 (dk_at dksX7_opens_1 0 rfl rfl)
theorem dX7_opens_26 : decode cX7_opens 26 = .ok (.iconst 1, 1) := dk_4 (dk_at dksX7_opens_1 3 rfl rfl)
theorem dX7_opens_27 : decode cX7_opens 27 = .ok (.iadd, 1) := dk_96 (dk_at dksX7_opens_1 4 rfl rfl)
theorem dX7_opens_28 : decode cX7_opens 28 = .ok (.putfield 19, 3) := dk_181 0 19 (dk_at dksX7_opens_1 5 rfl rfl)
theorem dX7_opens_31 : decode cX7_opens 31 = .ok (.iconst 1, 1) := dk_4 (dk_at dksX7_opens_1 8 rfl rfl)
theorem dX7_opens_32 : decode cX7_opens 32 = .ok (.ireturn, 1) := dk_172 (dk_at dksX7_opens_1 9 rfl rfl)
abbrev cX7_wrong : ByteArray := prog_23_method_4_code
def yX7_wrong : MethodName := ⟨RX7, "wrong", "()LSpeaksInTurn$Node;"⟩
def dkwX7_wrong_0 : List UInt8 := [42, 180, 0, 15, 156, 0, 11, 42, 42, 180, 0, 19, 181, 0, 15, 1, 176]
abbrev dktX7_wrong_0 : List UInt8 := dkwX7_wrong_0 ++ []
theorem dksX7_wrong_0 : cX7_wrong.data.toList.drop 0 = dktX7_wrong_0 := by decide +kernel
theorem dX7_wrong_0 : decode cX7_wrong 0 = .ok (.aload_n 0, 1) := dk_42 (dk_at dksX7_wrong_0 0 rfl rfl)
theorem dX7_wrong_1 : decode cX7_wrong 1 = .ok (.getfield 15, 3) := dk_180 0 15 (dk_at dksX7_wrong_0 1 rfl rfl)
theorem dX7_wrong_4 : decode cX7_wrong 4 = .ok (.ifCond .ge 11, 3) := dk_156 0 11 (dk_at dksX7_wrong_0 4 rfl rfl)
theorem dX7_wrong_7 : decode cX7_wrong 7 = .ok (.aload_n 0, 1) := dk_42 (dk_at dksX7_wrong_0 7 rfl rfl)
theorem dX7_wrong_8 : decode cX7_wrong 8 = .ok (.aload_n 0, 1) := dk_42 (dk_at dksX7_wrong_0 8 rfl rfl)
theorem dX7_wrong_9 : decode cX7_wrong 9 = .ok (.getfield 19, 3) := dk_180 0 19 (dk_at dksX7_wrong_0 9 rfl rfl)
theorem dX7_wrong_12 : decode cX7_wrong 12 = .ok (.putfield 15, 3) := dk_181 0 15 (dk_at dksX7_wrong_0 12 rfl rfl)
theorem dX7_wrong_15 : decode cX7_wrong 15 = .ok (.aconst_null, 1) := dk_1 (dk_at dksX7_wrong_0 15 rfl rfl)
theorem dX7_wrong_16 : decode cX7_wrong 16 = .ok (.areturn, 1) := dk_176 (dk_at dksX7_wrong_0 16 rfl rfl)
abbrev cX7_joined : ByteArray := prog_23_method_7_code
def yX7_joined : MethodName := ⟨RX7, "joined", "(ILSpeaksInTurn$Node;LSpeaksInTurn$Node;)LSpeaksInTurn$Node;"⟩
def dkwX7_joined_0 : List UInt8 := [42, 180, 0, 15, 155, 0, 7, 1, 167, 0, 13, 187, 0, 61, 89, 27, 44, 45, 183, 0, 63, 176]
abbrev dktX7_joined_0 : List UInt8 := dkwX7_joined_0 ++ []
theorem dksX7_joined_0 : cX7_joined.data.toList.drop 0 = dktX7_joined_0 := by decide +kernel
theorem dX7_joined_0 : decode cX7_joined 0 = .ok (.aload_n 0, 1) := dk_42 (dk_at dksX7_joined_0 0 rfl rfl)
theorem dX7_joined_1 : decode cX7_joined 1 = .ok (.getfield 15, 3) := dk_180 0 15 (dk_at dksX7_joined_0 1 rfl rfl)
theorem dX7_joined_4 : decode cX7_joined 4 = .ok (.ifCond .lt 7, 3) := dk_155 0 7 (dk_at dksX7_joined_0 4 rfl rfl)
theorem dX7_joined_7 : decode cX7_joined 7 = .ok (.aconst_null, 1) := dk_1 (dk_at dksX7_joined_0 7 rfl rfl)
theorem dX7_joined_8 : decode cX7_joined 8 = .ok (.goto 13, 3) := dk_167 0 13 (dk_at dksX7_joined_0 8 rfl rfl)
theorem dX7_joined_11 : decode cX7_joined 11 = .ok (.new 61, 3) := dk_187 0 61 (dk_at dksX7_joined_0 11 rfl rfl)
theorem dX7_joined_14 : decode cX7_joined 14 = .ok (.dup, 1) := dk_89 (dk_at dksX7_joined_0 14 rfl rfl)
theorem dX7_joined_15 : decode cX7_joined 15 = .ok (.iload_n 1, 1) := dk_27 (dk_at dksX7_joined_0 15 rfl rfl)
theorem dX7_joined_16 : decode cX7_joined 16 = .ok (.aload_n 2, 1) := dk_44 (dk_at dksX7_joined_0 16 rfl rfl)
theorem dX7_joined_17 : decode cX7_joined 17 = .ok (.aload_n 3, 1) := dk_45 (dk_at dksX7_joined_0 17 rfl rfl)
theorem dX7_joined_18 : decode cX7_joined 18 = .ok (.invokespecial 63, 3) := dk_183 0 63 (dk_at dksX7_joined_0 18 rfl rfl)
theorem dX7_joined_21 : decode cX7_joined 21 = .ok (.areturn, 1) := dk_176 (dk_at dksX7_joined_0 21 rfl rfl)
