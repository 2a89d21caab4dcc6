set_option maxRecDepth 100000
abbrev cX3_bitsOf : ByteArray := prog_34_method_57_code
def yX3_bitsOf : MethodName := ⟨RX3, "bitsOf", "(I)I"⟩
def dkwX3_bitsOf_0 : List UInt8 := [3, 60, 26, 61, 28, 153, 0, 15, 132, 1, 1, 28, 28, 4, 100, 126, 61, 167, 255, 243, 27, 172]
abbrev dktX3_bitsOf_0 : List UInt8 := dkwX3_bitsOf_0 ++ []
theorem dksX3_bitsOf_0 : cX3_bitsOf.data.toList.drop 0 = dktX3_bitsOf_0 := by decide +kernel
theorem dX3_bitsOf_0 : decode cX3_bitsOf 0 = .ok (.iconst 0, 1) := dk_3 (dk_at dksX3_bitsOf_0 0 rfl rfl)
theorem dX3_bitsOf_1 : decode cX3_bitsOf 1 = .ok (.istore_n 1, 1) := dk_60 (dk_at dksX3_bitsOf_0 1 rfl rfl)
theorem dX3_bitsOf_2 : decode cX3_bitsOf 2 = .ok (.iload_n 0, 1) := dk_26 (dk_at dksX3_bitsOf_0 2 rfl rfl)
theorem dX3_bitsOf_3 : decode cX3_bitsOf 3 = .ok (.istore_n 2, 1) := dk_61 (dk_at dksX3_bitsOf_0 3 rfl rfl)
theorem dX3_bitsOf_4 : decode cX3_bitsOf 4 = .ok (.iload_n 2, 1) := dk_28 (dk_at dksX3_bitsOf_0 4 rfl rfl)
theorem dX3_bitsOf_5 : decode cX3_bitsOf 5 = .ok (.ifCond .eq 15, 3) := dk_153 0 15 (dk_at dksX3_bitsOf_0 5 rfl rfl)
theorem dX3_bitsOf_8 : decode cX3_bitsOf 8 = .ok (.iinc 1 1, 3) := dk_132 1 1 (dk_at dksX3_bitsOf_0 8 rfl rfl)
theorem dX3_bitsOf_11 : decode cX3_bitsOf 11 = .ok (.iload_n 2, 1) := dk_28 (dk_at dksX3_bitsOf_0 11 rfl rfl)
theorem dX3_bitsOf_12 : decode cX3_bitsOf 12 = .ok (.iload_n 2, 1) := dk_28 (dk_at dksX3_bitsOf_0 12 rfl rfl)
theorem dX3_bitsOf_13 : decode cX3_bitsOf 13 = .ok (.iconst 1, 1) := dk_4 (dk_at dksX3_bitsOf_0 13 rfl rfl)
theorem dX3_bitsOf_14 : decode cX3_bitsOf 14 = .ok (.isub, 1) := dk_100 (dk_at dksX3_bitsOf_0 14 rfl rfl)
theorem dX3_bitsOf_15 : decode cX3_bitsOf 15 = .ok (.iand, 1) := dk_126 (dk_at dksX3_bitsOf_0 15 rfl rfl)
theorem dX3_bitsOf_16 : decode cX3_bitsOf 16 = .ok (.istore_n 2, 1) := dk_61 (dk_at dksX3_bitsOf_0 16 rfl rfl)
theorem dX3_bitsOf_17 : decode cX3_bitsOf 17 = .ok (.goto (-13), 3) := dk_167 255 243 (dk_at dksX3_bitsOf_0 17 rfl rfl)
theorem dX3_bitsOf_20 : decode cX3_bitsOf 20 = .ok (.iload_n 1, 1) := dk_27 (dk_at dksX3_bitsOf_0 20 rfl rfl)
theorem dX3_bitsOf_21 : decode cX3_bitsOf 21 = .ok (.ireturn, 1) := dk_172 (dk_at dksX3_bitsOf_0 21 rfl rfl)
abbrev cX3_cost : ByteArray := prog_34_method_60_code
def yX3_cost : MethodName := ⟨RX3, "cost", "()I"⟩
def dkwX3_cost_1 : List UInt8 := [104, 96, 60, 132, 2, 1, 167, 255, 230, 27, 172]
abbrev dktX3_cost_1 : List UInt8 := dkwX3_cost_1 ++ []
def dkwX3_cost_0 : List UInt8 := [3, 60, 3, 61, 28, 42, 180, 0, 159, 162, 0, 24, 27, 42, 180, 0, 22, 28, 46, 42, 28, 182, 1, 114]
abbrev dktX3_cost_0 : List UInt8 := dkwX3_cost_0 ++ dktX3_cost_1
theorem dksX3_cost_0 : cX3_cost.data.toList.drop 0 = dktX3_cost_0 := by decide +kernel
theorem dksX3_cost_1 : cX3_cost.data.toList.drop 24 = dktX3_cost_1 := dk_seg dksX3_cost_0 24 rfl rfl
theorem dX3_cost_0 : decode cX3_cost 0 = .ok (.iconst 0, 1) := dk_3 (dk_at dksX3_cost_0 0 rfl rfl)
theorem dX3_cost_1 : decode cX3_cost 1 = .ok (.istore_n 1, 1) := dk_60 (dk_at dksX3_cost_0 1 rfl rfl)
theorem dX3_cost_2 : decode cX3_cost 2 = .ok (.iconst 0, 1) := dk_3 (dk_at dksX3_cost_0 2 rfl rfl)
theorem dX3_cost_3 : decode cX3_cost 3 = .ok (.istore_n 2, 1) := dk_61 (dk_at dksX3_cost_0 3 rfl rfl)
theorem dX3_cost_4 : decode cX3_cost 4 = .ok (.iload_n 2, 1) := dk_28 (dk_at dksX3_cost_0 4 rfl rfl)
theorem dX3_cost_5 : decode cX3_cost 5 = .ok (.aload_n 0, 1) := dk_42 (dk_at dksX3_cost_0 5 rfl rfl)
theorem dX3_cost_6 : decode cX3_cost 6 = .ok (.getfield 159, 3) := dk_180 0 159 (dk_at dksX3_cost_0 6 rfl rfl)
theorem dX3_cost_9 : decode cX3_cost 9 = .ok (.if_icmp .ge 24, 3) := dk_162 0 24 (dk_at dksX3_cost_0 9 rfl rfl)
theorem dX3_cost_12 : decode cX3_cost 12 = .ok (.iload_n 1, 1) := dk_27 (dk_at dksX3_cost_0 12 rfl rfl)
theorem dX3_cost_13 : decode cX3_cost 13 = .ok (.aload_n 0, 1) := dk_42 (dk_at dksX3_cost_0 13 rfl rfl)
theorem dX3_cost_14 : decode cX3_cost 14 = .ok (.getfield 22, 3) := dk_180 0 22 (dk_at dksX3_cost_0 14 rfl rfl)
theorem dX3_cost_17 : decode cX3_cost 17 = .ok (.iload_n 2, 1) := dk_28 (dk_at dksX3_cost_0 17 rfl rfl)
theorem dX3_cost_18 : decode cX3_cost 18 = .ok (.iaload, 1) := dk_46 (dk_at dksX3_cost_0 18 rfl rfl)
theorem dX3_cost_19 : decode cX3_cost 19 = .ok (.aload_n 0, 1) := dk_42 (dk_at dksX3_cost_0 19 rfl rfl)
theorem dX3_cost_20 : decode cX3_cost 20 = .ok (.iload_n 2, 1) := dk_28 (dk_at dksX3_cost_0 20 rfl rfl)
theorem dX3_cost_21 : decode cX3_cost 21 = .ok (.invokevirtual 370, 3) := dk_182 1 114 (dk_at dksX3_cost_0 21 rfl rfl)
theorem dX3_cost_24 : decode cX3_cost 24 = .ok (.imul, 1) := dk_104 (dk_at dksX3_cost_1 0 rfl rfl)
theorem dX3_cost_25 : decode cX3_cost 25 = .ok (.iadd, 1) := dk_96 (dk_at dksX3_cost_1 1 rfl rfl)
theorem dX3_cost_26 : decode cX3_cost 26 = .ok (.istore_n 1, 1) := dk_60 (dk_at dksX3_cost_1 2 rfl rfl)
theorem dX3_cost_27 : decode cX3_cost 27 = .ok (.iinc 2 1, 3) := dk_132 2 1 (dk_at dksX3_cost_1 3 rfl rfl)
theorem dX3_cost_30 : decode cX3_cost 30 = .ok (.goto (-26), 3) := dk_167 255 230 (dk_at dksX3_cost_1 6 rfl rfl)
theorem dX3_cost_33 : decode cX3_cost 33 = .ok (.iload_n 1, 1) := dk_27 (dk_at dksX3_cost_1 9 rfl rfl)
theorem dX3_cost_34 : decode cX3_cost 34 = .ok (.ireturn, 1) := dk_172 (dk_at dksX3_cost_1 10 rfl rfl)
abbrev cX3_shed : ByteArray := prog_34_method_64_code
def yX3_shed : MethodName := ⟨RX3, "shed", "()I"⟩
def dkwX3_shed_3 : List UInt8 := [132, 2, 1, 167, 255, 186, 27, 172]
abbrev dktX3_shed_3 : List UInt8 := dkwX3_shed_3 ++ []
def dkwX3_shed_2 : List UInt8 := [42, 180, 0, 9, 16, 30, 27, 96, 46, 184, 1, 120, 4, 96, 108, 164, 0, 7, 28, 167, 0, 4, 27, 60]
abbrev dktX3_shed_2 : List UInt8 := dkwX3_shed_2 ++ dktX3_shed_3
def dkwX3_shed_1 : List UInt8 := [180, 0, 9, 16, 30, 28, 96, 46, 184, 1, 120, 4, 96, 108, 17, 3, 232, 42, 180, 0, 58, 27, 46, 104]
abbrev dktX3_shed_1 : List UInt8 := dkwX3_shed_1 ++ dktX3_shed_2
def dkwX3_shed_0 : List UInt8 := [3, 60, 4, 61, 28, 42, 180, 0, 166, 162, 0, 68, 17, 3, 232, 42, 180, 0, 58, 28, 46, 104, 42]
abbrev dktX3_shed_0 : List UInt8 := dkwX3_shed_0 ++ dktX3_shed_1
theorem dksX3_shed_0 : cX3_shed.data.toList.drop 0 = dktX3_shed_0 := by decide +kernel
theorem dksX3_shed_1 : cX3_shed.data.toList.drop 23 = dktX3_shed_1 := dk_seg dksX3_shed_0 23 rfl rfl
theorem dksX3_shed_2 : cX3_shed.data.toList.drop 47 = dktX3_shed_2 := dk_seg dksX3_shed_1 24 rfl rfl
theorem dksX3_shed_3 : cX3_shed.data.toList.drop 71 = dktX3_shed_3 := dk_seg dksX3_shed_2 24 rfl rfl
theorem dX3_shed_0 : decode cX3_shed 0 = .ok (.iconst 0, 1) := dk_3 (dk_at dksX3_shed_0 0 rfl rfl)
theorem dX3_shed_1 : decode cX3_shed 1 = .ok (.istore_n 1, 1) := dk_60 (dk_at dksX3_shed_0 1 rfl rfl)
theorem dX3_shed_2 : decode cX3_shed 2 = .ok (.iconst 1, 1) := dk_4 (dk_at dksX3_shed_0 2 rfl rfl)
theorem dX3_shed_3 : decode cX3_shed 3 = .ok (.istore_n 2, 1) := dk_61 (dk_at dksX3_shed_0 3 rfl rfl)
theorem dX3_shed_4 : decode cX3_shed 4 = .ok (.iload_n 2, 1) := dk_28 (dk_at dksX3_shed_0 4 rfl rfl)
theorem dX3_shed_5 : decode cX3_shed 5 = .ok (.aload_n 0, 1) := dk_42 (dk_at dksX3_shed_0 5 rfl rfl)
theorem dX3_shed_6 : decode cX3_shed 6 = .ok (.getfield 166, 3) := dk_180 0 166 (dk_at dksX3_shed_0 6 rfl rfl)
theorem dX3_shed_9 : decode cX3_shed 9 = .ok (.if_icmp .ge 68, 3) := dk_162 0 68 (dk_at dksX3_shed_0 9 rfl rfl)
theorem dX3_shed_12 : decode cX3_shed 12 = .ok (.sipush 1000, 3) := dk_17 3 232 (dk_at dksX3_shed_0 12 rfl rfl)
theorem dX3_shed_15 : decode cX3_shed 15 = .ok (.aload_n 0, 1) := dk_42 (dk_at dksX3_shed_0 15 rfl rfl)
theorem dX3_shed_16 : decode cX3_shed 16 = .ok (.getfield 58, 3) := dk_180 0 58 (dk_at dksX3_shed_0 16 rfl rfl)
theorem dX3_shed_19 : decode cX3_shed 19 = .ok (.iload_n 2, 1) := dk_28 (dk_at dksX3_shed_0 19 rfl rfl)
theorem dX3_shed_20 : decode cX3_shed 20 = .ok (.iaload, 1) := dk_46 (dk_at dksX3_shed_0 20 rfl rfl)
theorem dX3_shed_21 : decode cX3_shed 21 = .ok (.imul, 1) := dk_104 (dk_at dksX3_shed_0 21 rfl rfl)
theorem dX3_shed_22 : decode cX3_shed 22 = .ok (.aload_n 0, 1) := dk_42 (dk_at dksX3_shed_0 22 rfl rfl)
theorem dX3_shed_23 : decode cX3_shed 23 = .ok (.getfield 9, 3) := dk_180 0 9 (dk_at dksX3_shed_1 0 rfl rfl)
theorem dX3_shed_26 : decode cX3_shed 26 = .ok (.bipush 30, 2) := dk_16 30 (dk_at dksX3_shed_1 3 rfl rfl)
theorem dX3_shed_28 : decode cX3_shed 28 = .ok (.iload_n 2, 1) := dk_28 (dk_at dksX3_shed_1 5 rfl rfl)
theorem dX3_shed_29 : decode cX3_shed 29 = .ok (.iadd, 1) := dk_96 (dk_at dksX3_shed_1 6 rfl rfl)
theorem dX3_shed_30 : decode cX3_shed 30 = .ok (.iaload, 1) := dk_46 (dk_at dksX3_shed_1 7 rfl rfl)
theorem dX3_shed_31 : decode cX3_shed 31 = .ok (.invokestatic 376, 3) := dk_184 1 120 (dk_at dksX3_shed_1 8 rfl rfl)
theorem dX3_shed_34 : decode cX3_shed 34 = .ok (.iconst 1, 1) := dk_4 (dk_at dksX3_shed_1 11 rfl rfl)
theorem dX3_shed_35 : decode cX3_shed 35 = .ok (.iadd, 1) := dk_96 (dk_at dksX3_shed_1 12 rfl rfl)
theorem dX3_shed_36 : decode cX3_shed 36 = .ok (.idiv, 1) := dk_108 (dk_at dksX3_shed_1 13 rfl rfl)
theorem dX3_shed_37 : decode cX3_shed 37 = .ok (.sipush 1000, 3) := dk_17 3 232 (dk_at dksX3_shed_1 14 rfl rfl)
theorem dX3_shed_40 : decode cX3_shed 40 = .ok (.aload_n 0, 1) := dk_42 (dk_at dksX3_shed_1 17 rfl rfl)
theorem dX3_shed_41 : decode cX3_shed 41 = .ok (.getfield 58, 3) := dk_180 0 58 (dk_at dksX3_shed_1 18 rfl rfl)
theorem dX3_shed_44 : decode cX3_shed 44 = .ok (.iload_n 1, 1) := dk_27 (dk_at dksX3_shed_1 21 rfl rfl)
theorem dX3_shed_45 : decode cX3_shed 45 = .ok (.iaload, 1) := dk_46 (dk_at dksX3_shed_1 22 rfl rfl)
theorem dX3_shed_46 : decode cX3_shed 46 = .ok (.imul, 1) := dk_104 (dk_at dksX3_shed_1 23 rfl rfl)
theorem dX3_shed_47 : decode cX3_shed 47 = .ok (.aload_n 0, 1) := dk_42 (dk_at dksX3_shed_2 0 rfl rfl)
theorem dX3_shed_48 : decode cX3_shed 48 = .ok (.getfield 9, 3) := dk_180 0 9 (dk_at dksX3_shed_2 1 rfl rfl)
theorem dX3_shed_51 : decode cX3_shed 51 = .ok (.bipush 30, 2) := dk_16 30 (dk_at dksX3_shed_2 4 rfl rfl)
theorem dX3_shed_53 : decode cX3_shed 53 = .ok (.iload_n 1, 1) := dk_27 (dk_at dksX3_shed_2 6 rfl rfl)
theorem dX3_shed_54 : decode cX3_shed 54 = .ok (.iadd, 1) := dk_96 (dk_at dksX3_shed_2 7 rfl rfl)
theorem dX3_shed_55 : decode cX3_shed 55 = .ok (.iaload, 1) := dk_46 (dk_at dksX3_shed_2 8 rfl rfl)
theorem dX3_shed_56 : decode cX3_shed 56 = .ok (.invokestatic 376, 3) := dk_184 1 120 (dk_at dksX3_shed_2 9 rfl rfl)
theorem dX3_shed_59 : decode cX3_shed 59 = .ok (.iconst 1, 1) := dk_4 (dk_at dksX3_shed_2 12 rfl rfl)
theorem dX3_shed_60 : decode cX3_shed 60 = .ok (.iadd, 1) := dk_96 (dk_at dksX3_shed_2 13 rfl rfl)
theorem dX3_shed_61 : decode cX3_shed 61 = .ok (.idiv, 1) := dk_108 (dk_at dksX3_shed_2 14 rfl rfl)
theorem dX3_shed_62 : decode cX3_shed 62 = .ok (.if_icmp .le 7, 3) := dk_164 0 7 (dk_at dksX3_shed_2 15 rfl rfl)
theorem dX3_shed_65 : decode cX3_shed 65 = .ok (.iload_n 2, 1) := dk_28 (dk_at dksX3_shed_2 18 rfl rfl)
theorem dX3_shed_66 : decode cX3_shed 66 = .ok (.goto 4, 3) := dk_167 0 4 (dk_at dksX3_shed_2 19 rfl rfl)
theorem dX3_shed_69 : decode cX3_shed 69 = .ok (.iload_n 1, 1) := dk_27 (dk_at dksX3_shed_2 22 rfl rfl)
theorem dX3_shed_70 : decode cX3_shed 70 = .ok (.istore_n 1, 1) := dk_60 (dk_at dksX3_shed_2 23 rfl rfl)
theorem dX3_shed_71 : decode cX3_shed 71 = .ok (.iinc 2 1, 3) := dk_132 2 1 (dk_at dksX3_shed_3 0 rfl rfl)
theorem dX3_shed_74 : decode cX3_shed 74 = .ok (.goto (-70), 3) := dk_167 255 186 (dk_at dksX3_shed_3 3 rfl rfl)
theorem dX3_shed_77 : decode cX3_shed 77 = .ok (.iload_n 1, 1) := dk_27 (dk_at dksX3_shed_3 6 rfl rfl)
theorem dX3_shed_78 : decode cX3_shed 78 = .ok (.ireturn, 1) := dk_172 (dk_at dksX3_shed_3 7 rfl rfl)
abbrev cX3_size : ByteArray := prog_34_method_2_code
def yX3_size : MethodName := ⟨RX3, "size", "(I)I"⟩
def dkwX3_size_0 : List UInt8 := [26, 156, 0, 8, 26, 116, 167, 0, 4, 26, 172]
abbrev dktX3_size_0 : List UInt8 := dkwX3_size_0 ++ []
theorem dksX3_size_0 : cX3_size.data.toList.drop 0 = dktX3_size_0 := by decide +kernel
theorem dX3_size_0 : decode cX3_size 0 = .ok (.iload_n 0, 1) := dk_26 (dk_at dksX3_size_0 0 rfl rfl)
theorem dX3_size_1 : decode cX3_size 1 = .ok (.ifCond .ge 8, 3) := dk_156 0 8 (dk_at dksX3_size_0 1 rfl rfl)
theorem dX3_size_4 : decode cX3_size 4 = .ok (.iload_n 0, 1) := dk_26 (dk_at dksX3_size_0 4 rfl rfl)
theorem dX3_size_5 : decode cX3_size 5 = .ok (.ineg, 1) := dk_116 (dk_at dksX3_size_0 5 rfl rfl)
theorem dX3_size_6 : decode cX3_size 6 = .ok (.goto 4, 3) := dk_167 0 4 (dk_at dksX3_size_0 6 rfl rfl)
theorem dX3_size_9 : decode cX3_size 9 = .ok (.iload_n 0, 1) := dk_26 (dk_at dksX3_size_0 9 rfl rfl)
theorem dX3_size_10 : decode cX3_size 10 = .ok (.ireturn, 1) := dk_172 (dk_at dksX3_size_0 10 rfl rfl)
abbrev cX3_told : ByteArray := prog_34_method_69_code
def yX3_told : MethodName := ⟨RX3, "told", "(I)I"⟩
def dkwX3_told_1 : List UInt8 := [16, 251, 167, 0, 9, 42, 180, 0, 85, 27, 46, 172]
abbrev dktX3_told_1 : List UInt8 := dkwX3_told_1 ++ []
def dkwX3_told_0 : List UInt8 := [27, 133, 9, 20, 0, 172, 184, 0, 162, 154, 0, 7, 2, 167, 0, 21, 42, 180, 0, 150, 156, 0, 8]
abbrev dktX3_told_0 : List UInt8 := dkwX3_told_0 ++ dktX3_told_1
theorem dksX3_told_0 : cX3_told.data.toList.drop 0 = dktX3_told_0 := by decide +kernel
theorem dksX3_told_1 : cX3_told.data.toList.drop 23 = dktX3_told_1 := dk_seg dksX3_told_0 23 rfl rfl
theorem dX3_told_0 : decode cX3_told 0 = .ok (.iload_n 1, 1) := dk_27 (dk_at dksX3_told_0 0 rfl rfl)
theorem dX3_told_1 : decode cX3_told 1 = .ok (.i2l, 1) := dk_133 (dk_at dksX3_told_0 1 rfl rfl)
theorem dX3_told_2 : decode cX3_told 2 = .ok (.lconst 0, 1) := dk_9 (dk_at dksX3_told_0 2 rfl rfl)
theorem dX3_told_3 : decode cX3_told 3 = .ok (.ldc2_w 172, 3) := dk_20 0 172 (dk_at dksX3_told_0 3 rfl rfl)
theorem dX3_told_6 : decode cX3_told 6 = .ok (.invokestatic 162, 3) := dk_184 0 162 (dk_at dksX3_told_0 6 rfl rfl)
theorem dX3_told_9 : decode cX3_told 9 = .ok (.ifCond .ne 7, 3) := dk_154 0 7 (dk_at dksX3_told_0 9 rfl rfl)
theorem dX3_told_12 : decode cX3_told 12 = .ok (.iconst (-1), 1) := dk_2 (dk_at dksX3_told_0 12 rfl rfl)
theorem dX3_told_13 : decode cX3_told 13 = .ok (.goto 21, 3) := dk_167 0 21 (dk_at dksX3_told_0 13 rfl rfl)
theorem dX3_told_16 : decode cX3_told 16 = .ok (.aload_n 0, 1) := dk_42 (dk_at dksX3_told_0 16 rfl rfl)
theorem dX3_told_17 : decode cX3_told 17 = .ok (.getfield 150, 3) := dk_180 0 150 (dk_at dksX3_told_0 17 rfl rfl)
theorem dX3_told_20 : decode cX3_told 20 = .ok (.ifCond .ge 8, 3) := dk_156 0 8 (dk_at dksX3_told_0 20 rfl rfl)
theorem dX3_told_23 : decode cX3_told 23 = .ok (.bipush (-5), 2) := dk_16 251 (dk_at dksX3_told_1 0 rfl rfl)
theorem dX3_told_25 : decode cX3_told 25 = .ok (.goto 9, 3) := dk_167 0 9 (dk_at dksX3_told_1 2 rfl rfl)
theorem dX3_told_28 : decode cX3_told 28 = .ok (.aload_n 0, 1) := dk_42 (dk_at dksX3_told_1 5 rfl rfl)
theorem dX3_told_29 : decode cX3_told 29 = .ok (.getfield 85, 3) := dk_180 0 85 (dk_at dksX3_told_1 6 rfl rfl)
theorem dX3_told_32 : decode cX3_told 32 = .ok (.iload_n 1, 1) := dk_27 (dk_at dksX3_told_1 9 rfl rfl)
theorem dX3_told_33 : decode cX3_told 33 = .ok (.iaload, 1) := dk_46 (dk_at dksX3_told_1 10 rfl rfl)
theorem dX3_told_34 : decode cX3_told 34 = .ok (.ireturn, 1) := dk_172 (dk_at dksX3_told_1 11 rfl rfl)
abbrev cX3_saying : ByteArray := prog_34_method_70_code
def yX3_saying : MethodName := ⟨RX3, "saying", "(II)I"⟩
def dkwX3_saying_5 : List UInt8 := [27, 46, 172, 2, 172]
abbrev dktX3_saying_5 : List UInt8 := dkwX3_saying_5 ++ []
def dkwX3_saying_4 : List UInt8 := [180, 0, 97, 27, 46, 172, 42, 180, 0, 100, 27, 46, 172, 42, 180, 0, 103, 27, 46, 172, 42, 180, 0, 106]
abbrev dktX3_saying_4 : List UInt8 := dkwX3_saying_4 ++ dktX3_saying_5
def dkwX3_saying_3 : List UInt8 := [42, 180, 0, 88, 27, 46, 172, 42, 180, 0, 91, 27, 46, 172, 42, 180, 0, 94, 27, 46, 172, 42]
abbrev dktX3_saying_3 : List UInt8 := dkwX3_saying_3 ++ dktX3_saying_4
def dkwX3_saying_2 : List UInt8 := [170, 0, 0, 0, 90, 0, 0, 0, 0, 0, 0, 0, 6, 0, 0, 0, 41, 0, 0, 0, 48, 0, 0, 0, 55, 0, 0, 0, 62, 0, 0, 0, 69, 0, 0, 0, 76, 0, 0, 0, 83]
abbrev dktX3_saying_2 : List UInt8 := dkwX3_saying_2 ++ dktX3_saying_3
def dkwX3_saying_1 : List UInt8 := [27, 133, 9, 42, 180, 0, 150, 4, 100, 133, 184, 0, 162, 154, 0, 5, 2, 172, 28]
abbrev dktX3_saying_1 : List UInt8 := dkwX3_saying_1 ++ dktX3_saying_2
def dkwX3_saying_0 : List UInt8 := [28, 133, 9, 20, 1, 161, 184, 0, 162, 154, 0, 5, 2, 172, 42, 180, 0, 150, 156, 0, 6, 16, 251, 172]
abbrev dktX3_saying_0 : List UInt8 := dkwX3_saying_0 ++ dktX3_saying_1
theorem dksX3_saying_0 : cX3_saying.data.toList.drop 0 = dktX3_saying_0 := by decide +kernel
theorem dksX3_saying_1 : cX3_saying.data.toList.drop 24 = dktX3_saying_1 := dk_seg dksX3_saying_0 24 rfl rfl
theorem dksX3_saying_2 : cX3_saying.data.toList.drop 43 = dktX3_saying_2 := dk_seg dksX3_saying_1 19 rfl rfl
theorem dksX3_saying_3 : cX3_saying.data.toList.drop 84 = dktX3_saying_3 := dk_seg dksX3_saying_2 41 rfl rfl
theorem dksX3_saying_4 : cX3_saying.data.toList.drop 106 = dktX3_saying_4 := dk_seg dksX3_saying_3 22 rfl rfl
theorem dksX3_saying_5 : cX3_saying.data.toList.drop 130 = dktX3_saying_5 := dk_seg dksX3_saying_4 24 rfl rfl
theorem dX3_saying_0 : decode cX3_saying 0 = .ok (.iload_n 2, 1) := dk_28 (dk_at dksX3_saying_0 0 rfl rfl)
theorem dX3_saying_1 : decode cX3_saying 1 = .ok (.i2l, 1) := dk_133 (dk_at dksX3_saying_0 1 rfl rfl)
theorem dX3_saying_2 : decode cX3_saying 2 = .ok (.lconst 0, 1) := dk_9 (dk_at dksX3_saying_0 2 rfl rfl)
theorem dX3_saying_3 : decode cX3_saying 3 = .ok (.ldc2_w 417, 3) := dk_20 1 161 (dk_at dksX3_saying_0 3 rfl rfl)
theorem dX3_saying_6 : decode cX3_saying 6 = .ok (.invokestatic 162, 3) := dk_184 0 162 (dk_at dksX3_saying_0 6 rfl rfl)
theorem dX3_saying_9 : decode cX3_saying 9 = .ok (.ifCond .ne 5, 3) := dk_154 0 5 (dk_at dksX3_saying_0 9 rfl rfl)
theorem dX3_saying_12 : decode cX3_saying 12 = .ok (.iconst (-1), 1) := dk_2 (dk_at dksX3_saying_0 12 rfl rfl)
theorem dX3_saying_13 : decode cX3_saying 13 = .ok (.ireturn, 1) := dk_172 (dk_at dksX3_saying_0 13 rfl rfl)
theorem dX3_saying_14 : decode cX3_saying 14 = .ok (.aload_n 0, 1) := dk_42 (dk_at dksX3_saying_0 14 rfl rfl)
theorem dX3_saying_15 : decode cX3_saying 15 = .ok (.getfield 150, 3) := dk_180 0 150 (dk_at dksX3_saying_0 15 rfl rfl)
theorem dX3_saying_18 : decode cX3_saying 18 = .ok (.ifCond .ge 6, 3) := dk_156 0 6 (dk_at dksX3_saying_0 18 rfl rfl)
theorem dX3_saying_21 : decode cX3_saying 21 = .ok (.bipush (-5), 2) := dk_16 251 (dk_at dksX3_saying_0 21 rfl rfl)
theorem dX3_saying_23 : decode cX3_saying 23 = .ok (.ireturn, 1) := dk_172 (dk_at dksX3_saying_0 23 rfl rfl)
theorem dX3_saying_24 : decode cX3_saying 24 = .ok (.iload_n 1, 1) := dk_27 (dk_at dksX3_saying_1 0 rfl rfl)
theorem dX3_saying_25 : decode cX3_saying 25 = .ok (.i2l, 1) := dk_133 (dk_at dksX3_saying_1 1 rfl rfl)
theorem dX3_saying_26 : decode cX3_saying 26 = .ok (.lconst 0, 1) := dk_9 (dk_at dksX3_saying_1 2 rfl rfl)
theorem dX3_saying_27 : decode cX3_saying 27 = .ok (.aload_n 0, 1) := dk_42 (dk_at dksX3_saying_1 3 rfl rfl)
theorem dX3_saying_28 : decode cX3_saying 28 = .ok (.getfield 150, 3) := dk_180 0 150 (dk_at dksX3_saying_1 4 rfl rfl)
theorem dX3_saying_31 : decode cX3_saying 31 = .ok (.iconst 1, 1) := dk_4 (dk_at dksX3_saying_1 7 rfl rfl)
theorem dX3_saying_32 : decode cX3_saying 32 = .ok (.isub, 1) := dk_100 (dk_at dksX3_saying_1 8 rfl rfl)
theorem dX3_saying_33 : decode cX3_saying 33 = .ok (.i2l, 1) := dk_133 (dk_at dksX3_saying_1 9 rfl rfl)
theorem dX3_saying_34 : decode cX3_saying 34 = .ok (.invokestatic 162, 3) := dk_184 0 162 (dk_at dksX3_saying_1 10 rfl rfl)
theorem dX3_saying_37 : decode cX3_saying 37 = .ok (.ifCond .ne 5, 3) := dk_154 0 5 (dk_at dksX3_saying_1 13 rfl rfl)
theorem dX3_saying_40 : decode cX3_saying 40 = .ok (.iconst (-1), 1) := dk_2 (dk_at dksX3_saying_1 16 rfl rfl)
theorem dX3_saying_41 : decode cX3_saying 41 = .ok (.ireturn, 1) := dk_172 (dk_at dksX3_saying_1 17 rfl rfl)
theorem dX3_saying_42 : decode cX3_saying 42 = .ok (.iload_n 2, 1) := dk_28 (dk_at dksX3_saying_1 18 rfl rfl)
theorem dX3_saying_43 : decode cX3_saying 43 = .ok (.tableswitch 90 0 6 #[41, 48, 55, 62, 69, 76, 83], 41) := by decide +kernel
theorem dX3_saying_84 : decode cX3_saying 84 = .ok (.aload_n 0, 1) := dk_42 (dk_at dksX3_saying_3 0 rfl rfl)
theorem dX3_saying_85 : decode cX3_saying 85 = .ok (.getfield 88, 3) := dk_180 0 88 (dk_at dksX3_saying_3 1 rfl rfl)
theorem dX3_saying_88 : decode cX3_saying 88 = .ok (.iload_n 1, 1) := dk_27 (dk_at dksX3_saying_3 4 rfl rfl)
theorem dX3_saying_89 : decode cX3_saying 89 = .ok (.iaload, 1) := dk_46 (dk_at dksX3_saying_3 5 rfl rfl)
theorem dX3_saying_90 : decode cX3_saying 90 = .ok (.ireturn, 1) := dk_172 (dk_at dksX3_saying_3 6 rfl rfl)
theorem dX3_saying_91 : decode cX3_saying 91 = .ok (.aload_n 0, 1) := dk_42 (dk_at dksX3_saying_3 7 rfl rfl)
theorem dX3_saying_92 : decode cX3_saying 92 = .ok (.getfield 91, 3) := dk_180 0 91 (dk_at dksX3_saying_3 8 rfl rfl)
theorem dX3_saying_95 : decode cX3_saying 95 = .ok (.iload_n 1, 1) := dk_27 (dk_at dksX3_saying_3 11 rfl rfl)
theorem dX3_saying_96 : decode cX3_saying 96 = .ok (.iaload, 1) := dk_46 (dk_at dksX3_saying_3 12 rfl rfl)
theorem dX3_saying_97 : decode cX3_saying 97 = .ok (.ireturn, 1) := dk_172 (dk_at dksX3_saying_3 13 rfl rfl)
theorem dX3_saying_98 : decode cX3_saying 98 = .ok (.aload_n 0, 1) := dk_42 (dk_at dksX3_saying_3 14 rfl rfl)
theorem dX3_saying_99 : decode cX3_saying 99 = .ok (.getfield 94, 3) := dk_180 0 94 (dk_at dksX3_saying_3 15 rfl rfl)
theorem dX3_saying_102 : decode cX3_saying 102 = .ok (.iload_n 1, 1) := dk_27 (dk_at dksX3_saying_3 18 rfl rfl)
theorem dX3_saying_103 : decode cX3_saying 103 = .ok (.iaload, 1) := dk_46 (dk_at dksX3_saying_3 19 rfl rfl)
theorem dX3_saying_104 : decode cX3_saying 104 = .ok (.ireturn, 1) := dk_172 (dk_at dksX3_saying_3 20 rfl rfl)
theorem dX3_saying_105 : decode cX3_saying 105 = .ok (.aload_n 0, 1) := dk_42 (dk_at dksX3_saying_3 21 rfl rfl)
theorem dX3_saying_106 : decode cX3_saying 106 = .ok (.getfield 97, 3) := dk_180 0 97 (dk_at dksX3_saying_4 0 rfl rfl)
theorem dX3_saying_109 : decode cX3_saying 109 = .ok (.iload_n 1, 1) := dk_27 (dk_at dksX3_saying_4 3 rfl rfl)
theorem dX3_saying_110 : decode cX3_saying 110 = .ok (.iaload, 1) := dk_46 (dk_at dksX3_saying_4 4 rfl rfl)
theorem dX3_saying_111 : decode cX3_saying 111 = .ok (.ireturn, 1) := dk_172 (dk_at dksX3_saying_4 5 rfl rfl)
theorem dX3_saying_112 : decode cX3_saying 112 = .ok (.aload_n 0, 1) := dk_42 (dk_at dksX3_saying_4 6 rfl rfl)
theorem dX3_saying_113 : decode cX3_saying 113 = .ok (.getfield 100, 3) := dk_180 0 100 (dk_at dksX3_saying_4 7 rfl rfl)
theorem dX3_saying_116 : decode cX3_saying 116 = .ok (.iload_n 1, 1) := dk_27 (dk_at dksX3_saying_4 10 rfl rfl)
theorem dX3_saying_117 : decode cX3_saying 117 = .ok (.iaload, 1) := dk_46 (dk_at dksX3_saying_4 11 rfl rfl)
theorem dX3_saying_118 : decode cX3_saying 118 = .ok (.ireturn, 1) := dk_172 (dk_at dksX3_saying_4 12 rfl rfl)
theorem dX3_saying_119 : decode cX3_saying 119 = .ok (.aload_n 0, 1) := dk_42 (dk_at dksX3_saying_4 13 rfl rfl)
theorem dX3_saying_120 : decode cX3_saying 120 = .ok (.getfield 103, 3) := dk_180 0 103 (dk_at dksX3_saying_4 14 rfl rfl)
theorem dX3_saying_123 : decode cX3_saying 123 = .ok (.iload_n 1, 1) := dk_27 (dk_at dksX3_saying_4 17 rfl rfl)
theorem dX3_saying_124 : decode cX3_saying 124 = .ok (.iaload, 1) := dk_46 (dk_at dksX3_saying_4 18 rfl rfl)
theorem dX3_saying_125 : decode cX3_saying 125 = .ok (.ireturn, 1) := dk_172 (dk_at dksX3_saying_4 19 rfl rfl)
theorem dX3_saying_126 : decode cX3_saying 126 = .ok (.aload_n 0, 1) := dk_42 (dk_at dksX3_saying_4 20 rfl rfl)
theorem dX3_saying_127 : decode cX3_saying 127 = .ok (.getfield 106, 3) := dk_180 0 106 (dk_at dksX3_saying_4 21 rfl rfl)
theorem dX3_saying_130 : decode cX3_saying 130 = .ok (.iload_n 1, 1) := dk_27 (dk_at dksX3_saying_5 0 rfl rfl)
theorem dX3_saying_131 : decode cX3_saying 131 = .ok (.iaload, 1) := dk_46 (dk_at dksX3_saying_5 1 rfl rfl)
theorem dX3_saying_132 : decode cX3_saying 132 = .ok (.ireturn, 1) := dk_172 (dk_at dksX3_saying_5 2 rfl rfl)
theorem dX3_saying_133 : decode cX3_saying 133 = .ok (.iconst (-1), 1) := dk_2 (dk_at dksX3_saying_5 3 rfl rfl)
theorem dX3_saying_134 : decode cX3_saying 134 = .ok (.ireturn, 1) := dk_172 (dk_at dksX3_saying_5 4 rfl rfl)
abbrev cX3_took : ByteArray := prog_34_method_71_code
def yX3_took : MethodName := ⟨RX3, "took", "(II)I"⟩
def dkwX3_took_2 : List UInt8 := [167, 0, 9, 42, 180, 0, 112, 27, 46, 172]
abbrev dktX3_took_2 : List UInt8 := dkwX3_took_2 ++ []
def dkwX3_took_1 : List UInt8 := [133, 9, 10, 184, 0, 162, 154, 0, 6, 18, 218, 172, 28, 154, 0, 12, 42, 180, 0, 109, 27, 46]
abbrev dktX3_took_1 : List UInt8 := dkwX3_took_1 ++ dktX3_took_2
def dkwX3_took_0 : List UInt8 := [42, 180, 0, 150, 155, 0, 29, 27, 133, 9, 42, 180, 1, 126, 4, 100, 133, 184, 0, 162, 153, 0, 13, 28]
abbrev dktX3_took_0 : List UInt8 := dkwX3_took_0 ++ dktX3_took_1
theorem dksX3_took_0 : cX3_took.data.toList.drop 0 = dktX3_took_0 := by decide +kernel
theorem dksX3_took_1 : cX3_took.data.toList.drop 24 = dktX3_took_1 := dk_seg dksX3_took_0 24 rfl rfl
theorem dksX3_took_2 : cX3_took.data.toList.drop 46 = dktX3_took_2 := dk_seg dksX3_took_1 22 rfl rfl
theorem dX3_took_0 : decode cX3_took 0 = .ok (.aload_n 0, 1) := dk_42 (dk_at dksX3_took_0 0 rfl rfl)
theorem dX3_took_1 : decode cX3_took 1 = .ok (.getfield 150, 3) := dk_180 0 150 (dk_at dksX3_took_0 1 rfl rfl)
theorem dX3_took_4 : decode cX3_took 4 = .ok (.ifCond .lt 29, 3) := dk_155 0 29 (dk_at dksX3_took_0 4 rfl rfl)
theorem dX3_took_7 : decode cX3_took 7 = .ok (.iload_n 1, 1) := dk_27 (dk_at dksX3_took_0 7 rfl rfl)
theorem dX3_took_8 : decode cX3_took 8 = .ok (.i2l, 1) := dk_133 (dk_at dksX3_took_0 8 rfl rfl)
theorem dX3_took_9 : decode cX3_took 9 = .ok (.lconst 0, 1) := dk_9 (dk_at dksX3_took_0 9 rfl rfl)
theorem dX3_took_10 : decode cX3_took 10 = .ok (.aload_n 0, 1) := dk_42 (dk_at dksX3_took_0 10 rfl rfl)
theorem dX3_took_11 : decode cX3_took 11 = .ok (.getfield 382, 3) := dk_180 1 126 (dk_at dksX3_took_0 11 rfl rfl)
theorem dX3_took_14 : decode cX3_took 14 = .ok (.iconst 1, 1) := dk_4 (dk_at dksX3_took_0 14 rfl rfl)
theorem dX3_took_15 : decode cX3_took 15 = .ok (.isub, 1) := dk_100 (dk_at dksX3_took_0 15 rfl rfl)
theorem dX3_took_16 : decode cX3_took 16 = .ok (.i2l, 1) := dk_133 (dk_at dksX3_took_0 16 rfl rfl)
theorem dX3_took_17 : decode cX3_took 17 = .ok (.invokestatic 162, 3) := dk_184 0 162 (dk_at dksX3_took_0 17 rfl rfl)
theorem dX3_took_20 : decode cX3_took 20 = .ok (.ifCond .eq 13, 3) := dk_153 0 13 (dk_at dksX3_took_0 20 rfl rfl)
theorem dX3_took_23 : decode cX3_took 23 = .ok (.iload_n 2, 1) := dk_28 (dk_at dksX3_took_0 23 rfl rfl)
theorem dX3_took_24 : decode cX3_took 24 = .ok (.i2l, 1) := dk_133 (dk_at dksX3_took_1 0 rfl rfl)
theorem dX3_took_25 : decode cX3_took 25 = .ok (.lconst 0, 1) := dk_9 (dk_at dksX3_took_1 1 rfl rfl)
theorem dX3_took_26 : decode cX3_took 26 = .ok (.lconst 1, 1) := dk_10 (dk_at dksX3_took_1 2 rfl rfl)
theorem dX3_took_27 : decode cX3_took 27 = .ok (.invokestatic 162, 3) := dk_184 0 162 (dk_at dksX3_took_1 3 rfl rfl)
theorem dX3_took_30 : decode cX3_took 30 = .ok (.ifCond .ne 6, 3) := dk_154 0 6 (dk_at dksX3_took_1 6 rfl rfl)
theorem dX3_took_33 : decode cX3_took 33 = .ok (.ldc 218, 2) := dk_18 218 (dk_at dksX3_took_1 9 rfl rfl)
theorem dX3_took_35 : decode cX3_took 35 = .ok (.ireturn, 1) := dk_172 (dk_at dksX3_took_1 11 rfl rfl)
theorem dX3_took_36 : decode cX3_took 36 = .ok (.iload_n 2, 1) := dk_28 (dk_at dksX3_took_1 12 rfl rfl)
theorem dX3_took_37 : decode cX3_took 37 = .ok (.ifCond .ne 12, 3) := dk_154 0 12 (dk_at dksX3_took_1 13 rfl rfl)
theorem dX3_took_40 : decode cX3_took 40 = .ok (.aload_n 0, 1) := dk_42 (dk_at dksX3_took_1 16 rfl rfl)
theorem dX3_took_41 : decode cX3_took 41 = .ok (.getfield 109, 3) := dk_180 0 109 (dk_at dksX3_took_1 17 rfl rfl)
theorem dX3_took_44 : decode cX3_took 44 = .ok (.iload_n 1, 1) := dk_27 (dk_at dksX3_took_1 20 rfl rfl)
theorem dX3_took_45 : decode cX3_took 45 = .ok (.iaload, 1) := dk_46 (dk_at dksX3_took_1 21 rfl rfl)
theorem dX3_took_46 : decode cX3_took 46 = .ok (.goto 9, 3) := dk_167 0 9 (dk_at dksX3_took_2 0 rfl rfl)
theorem dX3_took_49 : decode cX3_took 49 = .ok (.aload_n 0, 1) := dk_42 (dk_at dksX3_took_2 3 rfl rfl)
theorem dX3_took_50 : decode cX3_took 50 = .ok (.getfield 112, 3) := dk_180 0 112 (dk_at dksX3_took_2 4 rfl rfl)
theorem dX3_took_53 : decode cX3_took 53 = .ok (.iload_n 1, 1) := dk_27 (dk_at dksX3_took_2 7 rfl rfl)
theorem dX3_took_54 : decode cX3_took 54 = .ok (.iaload, 1) := dk_46 (dk_at dksX3_took_2 8 rfl rfl)
theorem dX3_took_55 : decode cX3_took 55 = .ok (.ireturn, 1) := dk_172 (dk_at dksX3_took_2 9 rfl rfl)
abbrev cX3_did : ByteArray := prog_34_method_72_code
def yX3_did : MethodName := ⟨RX3, "did", "(II)I"⟩
def dkwX3_did_10 : List UInt8 := [21, 5, 167, 0, 9, 42, 180, 0, 121, 27, 46, 172]
abbrev dktX3_did_10 : List UInt8 := dkwX3_did_10 ++ []
def dkwX3_did_9 : List UInt8 := [180, 0, 85, 3, 46, 108, 167, 0, 29, 28, 4, 160, 0, 8, 21, 4, 167, 0, 19, 28, 5, 160, 0, 8]
abbrev dktX3_did_9 : List UInt8 := dkwX3_did_9 ++ dktX3_did_10
def dkwX3_did_8 : List UInt8 := [154, 0, 31, 42, 180, 0, 85, 3, 46, 154, 0, 7, 3, 167, 0, 44, 17, 3, 232, 29, 104, 42]
abbrev dktX3_did_8 : List UInt8 := dkwX3_did_8 ++ dktX3_did_9
def dkwX3_did_7 : List UInt8 := [21, 6, 46, 46, 27, 159, 0, 7, 4, 167, 0, 4, 3, 96, 54, 5, 132, 6, 1, 167, 255, 124, 28]
abbrev dktX3_did_7 : List UInt8 := dkwX3_did_7 ++ dktX3_did_8
def dkwX3_did_6 : List UInt8 := [42, 180, 0, 115, 42, 180, 0, 103, 21, 6, 46, 46, 155, 0, 23, 42, 180, 0, 115, 42, 180, 0, 103]
abbrev dktX3_did_6 : List UInt8 := dkwX3_did_6 ++ dktX3_did_7
def dkwX3_did_5 : List UInt8 := [42, 180, 0, 103, 21, 6, 46, 155, 0, 7, 4, 167, 0, 4, 3, 54, 7, 21, 5, 21, 7, 153, 0, 38]
abbrev dktX3_did_5 : List UInt8 := dkwX3_did_5 ++ dktX3_did_6
def dkwX3_did_4 : List UInt8 := [46, 27, 160, 0, 7, 4, 167, 0, 4, 3, 96, 54, 4, 42, 180, 0, 88, 21, 6, 46, 27, 160, 0, 17]
abbrev dktX3_did_4 : List UInt8 := dkwX3_did_4 ++ dktX3_did_5
def dkwX3_did_3 : List UInt8 := [160, 0, 13, 42, 180, 0, 97, 21, 6, 46, 167, 0, 4, 3, 96, 62, 21, 4, 42, 180, 0, 106, 21, 6]
abbrev dktX3_did_3 : List UInt8 := dkwX3_did_3 ++ dktX3_did_4
def dkwX3_did_2 : List UInt8 := [54, 5, 3, 54, 6, 21, 6, 42, 180, 0, 150, 162, 0, 129, 29, 42, 180, 0, 88, 21, 6, 46, 27]
abbrev dktX3_did_2 : List UInt8 := dkwX3_did_2 ++ dktX3_did_3
def dkwX3_did_1 : List UInt8 := [27, 133, 9, 42, 180, 1, 123, 4, 100, 133, 184, 0, 162, 154, 0, 5, 2, 172, 3, 62, 3, 54, 4, 3]
abbrev dktX3_did_1 : List UInt8 := dkwX3_did_1 ++ dktX3_did_2
def dkwX3_did_0 : List UInt8 := [28, 133, 9, 20, 1, 163, 184, 0, 162, 154, 0, 5, 2, 172, 42, 180, 0, 150, 156, 0, 6, 16, 251, 172]
abbrev dktX3_did_0 : List UInt8 := dkwX3_did_0 ++ dktX3_did_1
theorem dksX3_did_0 : cX3_did.data.toList.drop 0 = dktX3_did_0 := by decide +kernel
theorem dksX3_did_1 : cX3_did.data.toList.drop 24 = dktX3_did_1 := dk_seg dksX3_did_0 24 rfl rfl
theorem dksX3_did_2 : cX3_did.data.toList.drop 48 = dktX3_did_2 := dk_seg dksX3_did_1 24 rfl rfl
theorem dksX3_did_3 : cX3_did.data.toList.drop 71 = dktX3_did_3 := dk_seg dksX3_did_2 23 rfl rfl
theorem dksX3_did_4 : cX3_did.data.toList.drop 95 = dktX3_did_4 := dk_seg dksX3_did_3 24 rfl rfl
theorem dksX3_did_5 : cX3_did.data.toList.drop 119 = dktX3_did_5 := dk_seg dksX3_did_4 24 rfl rfl
theorem dksX3_did_6 : cX3_did.data.toList.drop 143 = dktX3_did_6 := dk_seg dksX3_did_5 24 rfl rfl
theorem dksX3_did_7 : cX3_did.data.toList.drop 166 = dktX3_did_7 := dk_seg dksX3_did_6 23 rfl rfl
theorem dksX3_did_8 : cX3_did.data.toList.drop 189 = dktX3_did_8 := dk_seg dksX3_did_7 23 rfl rfl
theorem dksX3_did_9 : cX3_did.data.toList.drop 211 = dktX3_did_9 := dk_seg dksX3_did_8 22 rfl rfl
theorem dksX3_did_10 : cX3_did.data.toList.drop 235 = dktX3_did_10 := dk_seg dksX3_did_9 24 rfl rfl
theorem dX3_did_0 : decode cX3_did 0 = .ok (.iload_n 2, 1) := dk_28 (dk_at dksX3_did_0 0 rfl rfl)
theorem dX3_did_1 : decode cX3_did 1 = .ok (.i2l, 1) := dk_133 (dk_at dksX3_did_0 1 rfl rfl)
theorem dX3_did_2 : decode cX3_did 2 = .ok (.lconst 0, 1) := dk_9 (dk_at dksX3_did_0 2 rfl rfl)
theorem dX3_did_3 : decode cX3_did 3 = .ok (.ldc2_w 419, 3) := dk_20 1 163 (dk_at dksX3_did_0 3 rfl rfl)
theorem dX3_did_6 : decode cX3_did 6 = .ok (.invokestatic 162, 3) := dk_184 0 162 (dk_at dksX3_did_0 6 rfl rfl)
theorem dX3_did_9 : decode cX3_did 9 = .ok (.ifCond .ne 5, 3) := dk_154 0 5 (dk_at dksX3_did_0 9 rfl rfl)
theorem dX3_did_12 : decode cX3_did 12 = .ok (.iconst (-1), 1) := dk_2 (dk_at dksX3_did_0 12 rfl rfl)
theorem dX3_did_13 : decode cX3_did 13 = .ok (.ireturn, 1) := dk_172 (dk_at dksX3_did_0 13 rfl rfl)
theorem dX3_did_14 : decode cX3_did 14 = .ok (.aload_n 0, 1) := dk_42 (dk_at dksX3_did_0 14 rfl rfl)
theorem dX3_did_15 : decode cX3_did 15 = .ok (.getfield 150, 3) := dk_180 0 150 (dk_at dksX3_did_0 15 rfl rfl)
theorem dX3_did_18 : decode cX3_did 18 = .ok (.ifCond .ge 6, 3) := dk_156 0 6 (dk_at dksX3_did_0 18 rfl rfl)
theorem dX3_did_21 : decode cX3_did 21 = .ok (.bipush (-5), 2) := dk_16 251 (dk_at dksX3_did_0 21 rfl rfl)
theorem dX3_did_23 : decode cX3_did 23 = .ok (.ireturn, 1) := dk_172 (dk_at dksX3_did_0 23 rfl rfl)
theorem dX3_did_24 : decode cX3_did 24 = .ok (.iload_n 1, 1) := dk_27 (dk_at dksX3_did_1 0 rfl rfl)
theorem dX3_did_25 : decode cX3_did 25 = .ok (.i2l, 1) := dk_133 (dk_at dksX3_did_1 1 rfl rfl)
theorem dX3_did_26 : decode cX3_did 26 = .ok (.lconst 0, 1) := dk_9 (dk_at dksX3_did_1 2 rfl rfl)
theorem dX3_did_27 : decode cX3_did 27 = .ok (.aload_n 0, 1) := dk_42 (dk_at dksX3_did_1 3 rfl rfl)
theorem dX3_did_28 : decode cX3_did 28 = .ok (.getfield 379, 3) := dk_180 1 123 (dk_at dksX3_did_1 4 rfl rfl)
theorem dX3_did_31 : decode cX3_did 31 = .ok (.iconst 1, 1) := dk_4 (dk_at dksX3_did_1 7 rfl rfl)
theorem dX3_did_32 : decode cX3_did 32 = .ok (.isub, 1) := dk_100 (dk_at dksX3_did_1 8 rfl rfl)
theorem dX3_did_33 : decode cX3_did 33 = .ok (.i2l, 1) := dk_133 (dk_at dksX3_did_1 9 rfl rfl)
theorem dX3_did_34 : decode cX3_did 34 = .ok (.invokestatic 162, 3) := dk_184 0 162 (dk_at dksX3_did_1 10 rfl rfl)
theorem dX3_did_37 : decode cX3_did 37 = .ok (.ifCond .ne 5, 3) := dk_154 0 5 (dk_at dksX3_did_1 13 rfl rfl)
theorem dX3_did_40 : decode cX3_did 40 = .ok (.iconst (-1), 1) := dk_2 (dk_at dksX3_did_1 16 rfl rfl)
theorem dX3_did_41 : decode cX3_did 41 = .ok (.ireturn, 1) := dk_172 (dk_at dksX3_did_1 17 rfl rfl)
theorem dX3_did_42 : decode cX3_did 42 = .ok (.iconst 0, 1) := dk_3 (dk_at dksX3_did_1 18 rfl rfl)
theorem dX3_did_43 : decode cX3_did 43 = .ok (.istore_n 3, 1) := dk_62 (dk_at dksX3_did_1 19 rfl rfl)
theorem dX3_did_44 : decode cX3_did 44 = .ok (.iconst 0, 1) := dk_3 (dk_at dksX3_did_1 20 rfl rfl)
theorem dX3_did_45 : decode cX3_did 45 = .ok (.istore 4, 2) := dk_54 4 (dk_at dksX3_did_1 21 rfl rfl)
theorem dX3_did_47 : decode cX3_did 47 = .ok (.iconst 0, 1) := dk_3 (dk_at dksX3_did_1 23 rfl rfl)
theorem dX3_did_48 : decode cX3_did 48 = .ok (.istore 5, 2) := dk_54 5 (dk_at dksX3_did_2 0 rfl rfl)
theorem dX3_did_50 : decode cX3_did 50 = .ok (.iconst 0, 1) := dk_3 (dk_at dksX3_did_2 2 rfl rfl)
theorem dX3_did_51 : decode cX3_did 51 = .ok (.istore 6, 2) := dk_54 6 (dk_at dksX3_did_2 3 rfl rfl)
theorem dX3_did_53 : decode cX3_did 53 = .ok (.iload 6, 2) := dk_21 6 (dk_at dksX3_did_2 5 rfl rfl)
theorem dX3_did_55 : decode cX3_did 55 = .ok (.aload_n 0, 1) := dk_42 (dk_at dksX3_did_2 7 rfl rfl)
theorem dX3_did_56 : decode cX3_did 56 = .ok (.getfield 150, 3) := dk_180 0 150 (dk_at dksX3_did_2 8 rfl rfl)
theorem dX3_did_59 : decode cX3_did 59 = .ok (.if_icmp .ge 129, 3) := dk_162 0 129 (dk_at dksX3_did_2 11 rfl rfl)
theorem dX3_did_62 : decode cX3_did 62 = .ok (.iload_n 3, 1) := dk_29 (dk_at dksX3_did_2 14 rfl rfl)
theorem dX3_did_63 : decode cX3_did 63 = .ok (.aload_n 0, 1) := dk_42 (dk_at dksX3_did_2 15 rfl rfl)
theorem dX3_did_64 : decode cX3_did 64 = .ok (.getfield 88, 3) := dk_180 0 88 (dk_at dksX3_did_2 16 rfl rfl)
theorem dX3_did_67 : decode cX3_did 67 = .ok (.iload 6, 2) := dk_21 6 (dk_at dksX3_did_2 19 rfl rfl)
theorem dX3_did_69 : decode cX3_did 69 = .ok (.iaload, 1) := dk_46 (dk_at dksX3_did_2 21 rfl rfl)
theorem dX3_did_70 : decode cX3_did 70 = .ok (.iload_n 1, 1) := dk_27 (dk_at dksX3_did_2 22 rfl rfl)
theorem dX3_did_71 : decode cX3_did 71 = .ok (.if_icmp .ne 13, 3) := dk_160 0 13 (dk_at dksX3_did_3 0 rfl rfl)
theorem dX3_did_74 : decode cX3_did 74 = .ok (.aload_n 0, 1) := dk_42 (dk_at dksX3_did_3 3 rfl rfl)
theorem dX3_did_75 : decode cX3_did 75 = .ok (.getfield 97, 3) := dk_180 0 97 (dk_at dksX3_did_3 4 rfl rfl)
theorem dX3_did_78 : decode cX3_did 78 = .ok (.iload 6, 2) := dk_21 6 (dk_at dksX3_did_3 7 rfl rfl)
theorem dX3_did_80 : decode cX3_did 80 = .ok (.iaload, 1) := dk_46 (dk_at dksX3_did_3 9 rfl rfl)
theorem dX3_did_81 : decode cX3_did 81 = .ok (.goto 4, 3) := dk_167 0 4 (dk_at dksX3_did_3 10 rfl rfl)
theorem dX3_did_84 : decode cX3_did 84 = .ok (.iconst 0, 1) := dk_3 (dk_at dksX3_did_3 13 rfl rfl)
theorem dX3_did_85 : decode cX3_did 85 = .ok (.iadd, 1) := dk_96 (dk_at dksX3_did_3 14 rfl rfl)
theorem dX3_did_86 : decode cX3_did 86 = .ok (.istore_n 3, 1) := dk_62 (dk_at dksX3_did_3 15 rfl rfl)
theorem dX3_did_87 : decode cX3_did 87 = .ok (.iload 4, 2) := dk_21 4 (dk_at dksX3_did_3 16 rfl rfl)
theorem dX3_did_89 : decode cX3_did 89 = .ok (.aload_n 0, 1) := dk_42 (dk_at dksX3_did_3 18 rfl rfl)
theorem dX3_did_90 : decode cX3_did 90 = .ok (.getfield 106, 3) := dk_180 0 106 (dk_at dksX3_did_3 19 rfl rfl)
theorem dX3_did_93 : decode cX3_did 93 = .ok (.iload 6, 2) := dk_21 6 (dk_at dksX3_did_3 22 rfl rfl)
theorem dX3_did_95 : decode cX3_did 95 = .ok (.iaload, 1) := dk_46 (dk_at dksX3_did_4 0 rfl rfl)
theorem dX3_did_96 : decode cX3_did 96 = .ok (.iload_n 1, 1) := dk_27 (dk_at dksX3_did_4 1 rfl rfl)
theorem dX3_did_97 : decode cX3_did 97 = .ok (.if_icmp .ne 7, 3) := dk_160 0 7 (dk_at dksX3_did_4 2 rfl rfl)
theorem dX3_did_100 : decode cX3_did 100 = .ok (.iconst 1, 1) := dk_4 (dk_at dksX3_did_4 5 rfl rfl)
theorem dX3_did_101 : decode cX3_did 101 = .ok (.goto 4, 3) := dk_167 0 4 (dk_at dksX3_did_4 6 rfl rfl)
theorem dX3_did_104 : decode cX3_did 104 = .ok (.iconst 0, 1) := dk_3 (dk_at dksX3_did_4 9 rfl rfl)
theorem dX3_did_105 : decode cX3_did 105 = .ok (.iadd, 1) := dk_96 (dk_at dksX3_did_4 10 rfl rfl)
theorem dX3_did_106 : decode cX3_did 106 = .ok (.istore 4, 2) := dk_54 4 (dk_at dksX3_did_4 11 rfl rfl)
theorem dX3_did_108 : decode cX3_did 108 = .ok (.aload_n 0, 1) := dk_42 (dk_at dksX3_did_4 13 rfl rfl)
theorem dX3_did_109 : decode cX3_did 109 = .ok (.getfield 88, 3) := dk_180 0 88 (dk_at dksX3_did_4 14 rfl rfl)
theorem dX3_did_112 : decode cX3_did 112 = .ok (.iload 6, 2) := dk_21 6 (dk_at dksX3_did_4 17 rfl rfl)
theorem dX3_did_114 : decode cX3_did 114 = .ok (.iaload, 1) := dk_46 (dk_at dksX3_did_4 19 rfl rfl)
theorem dX3_did_115 : decode cX3_did 115 = .ok (.iload_n 1, 1) := dk_27 (dk_at dksX3_did_4 20 rfl rfl)
theorem dX3_did_116 : decode cX3_did 116 = .ok (.if_icmp .ne 17, 3) := dk_160 0 17 (dk_at dksX3_did_4 21 rfl rfl)
theorem dX3_did_119 : decode cX3_did 119 = .ok (.aload_n 0, 1) := dk_42 (dk_at dksX3_did_5 0 rfl rfl)
theorem dX3_did_120 : decode cX3_did 120 = .ok (.getfield 103, 3) := dk_180 0 103 (dk_at dksX3_did_5 1 rfl rfl)
theorem dX3_did_123 : decode cX3_did 123 = .ok (.iload 6, 2) := dk_21 6 (dk_at dksX3_did_5 4 rfl rfl)
theorem dX3_did_125 : decode cX3_did 125 = .ok (.iaload, 1) := dk_46 (dk_at dksX3_did_5 6 rfl rfl)
theorem dX3_did_126 : decode cX3_did 126 = .ok (.ifCond .lt 7, 3) := dk_155 0 7 (dk_at dksX3_did_5 7 rfl rfl)
theorem dX3_did_129 : decode cX3_did 129 = .ok (.iconst 1, 1) := dk_4 (dk_at dksX3_did_5 10 rfl rfl)
theorem dX3_did_130 : decode cX3_did 130 = .ok (.goto 4, 3) := dk_167 0 4 (dk_at dksX3_did_5 11 rfl rfl)
theorem dX3_did_133 : decode cX3_did 133 = .ok (.iconst 0, 1) := dk_3 (dk_at dksX3_did_5 14 rfl rfl)
theorem dX3_did_134 : decode cX3_did 134 = .ok (.istore 7, 2) := dk_54 7 (dk_at dksX3_did_5 15 rfl rfl)
theorem dX3_did_136 : decode cX3_did 136 = .ok (.iload 5, 2) := dk_21 5 (dk_at dksX3_did_5 17 rfl rfl)
theorem dX3_did_138 : decode cX3_did 138 = .ok (.iload 7, 2) := dk_21 7 (dk_at dksX3_did_5 19 rfl rfl)
theorem dX3_did_140 : decode cX3_did 140 = .ok (.ifCond .eq 38, 3) := dk_153 0 38 (dk_at dksX3_did_5 21 rfl rfl)
theorem dX3_did_143 : decode cX3_did 143 = .ok (.aload_n 0, 1) := dk_42 (dk_at dksX3_did_6 0 rfl rfl)
theorem dX3_did_144 : decode cX3_did 144 = .ok (.getfield 115, 3) := dk_180 0 115 (dk_at dksX3_did_6 1 rfl rfl)
theorem dX3_did_147 : decode cX3_did 147 = .ok (.aload_n 0, 1) := dk_42 (dk_at dksX3_did_6 4 rfl rfl)
theorem dX3_did_148 : decode cX3_did 148 = .ok (.getfield 103, 3) := dk_180 0 103 (dk_at dksX3_did_6 5 rfl rfl)
theorem dX3_did_151 : decode cX3_did 151 = .ok (.iload 6, 2) := dk_21 6 (dk_at dksX3_did_6 8 rfl rfl)
theorem dX3_did_153 : decode cX3_did 153 = .ok (.iaload, 1) := dk_46 (dk_at dksX3_did_6 10 rfl rfl)
theorem dX3_did_154 : decode cX3_did 154 = .ok (.iaload, 1) := dk_46 (dk_at dksX3_did_6 11 rfl rfl)
theorem dX3_did_155 : decode cX3_did 155 = .ok (.ifCond .lt 23, 3) := dk_155 0 23 (dk_at dksX3_did_6 12 rfl rfl)
theorem dX3_did_158 : decode cX3_did 158 = .ok (.aload_n 0, 1) := dk_42 (dk_at dksX3_did_6 15 rfl rfl)
theorem dX3_did_159 : decode cX3_did 159 = .ok (.getfield 115, 3) := dk_180 0 115 (dk_at dksX3_did_6 16 rfl rfl)
theorem dX3_did_162 : decode cX3_did 162 = .ok (.aload_n 0, 1) := dk_42 (dk_at dksX3_did_6 19 rfl rfl)
theorem dX3_did_163 : decode cX3_did 163 = .ok (.getfield 103, 3) := dk_180 0 103 (dk_at dksX3_did_6 20 rfl rfl)
theorem dX3_did_166 : decode cX3_did 166 = .ok (.iload 6, 2) := dk_21 6 (dk_at dksX3_did_7 0 rfl rfl)
theorem dX3_did_168 : decode cX3_did 168 = .ok (.iaload, 1) := dk_46 (dk_at dksX3_did_7 2 rfl rfl)
theorem dX3_did_169 : decode cX3_did 169 = .ok (.iaload, 1) := dk_46 (dk_at dksX3_did_7 3 rfl rfl)
theorem dX3_did_170 : decode cX3_did 170 = .ok (.iload_n 1, 1) := dk_27 (dk_at dksX3_did_7 4 rfl rfl)
theorem dX3_did_171 : decode cX3_did 171 = .ok (.if_icmp .eq 7, 3) := dk_159 0 7 (dk_at dksX3_did_7 5 rfl rfl)
theorem dX3_did_174 : decode cX3_did 174 = .ok (.iconst 1, 1) := dk_4 (dk_at dksX3_did_7 8 rfl rfl)
theorem dX3_did_175 : decode cX3_did 175 = .ok (.goto 4, 3) := dk_167 0 4 (dk_at dksX3_did_7 9 rfl rfl)
theorem dX3_did_178 : decode cX3_did 178 = .ok (.iconst 0, 1) := dk_3 (dk_at dksX3_did_7 12 rfl rfl)
theorem dX3_did_179 : decode cX3_did 179 = .ok (.iadd, 1) := dk_96 (dk_at dksX3_did_7 13 rfl rfl)
theorem dX3_did_180 : decode cX3_did 180 = .ok (.istore 5, 2) := dk_54 5 (dk_at dksX3_did_7 14 rfl rfl)
theorem dX3_did_182 : decode cX3_did 182 = .ok (.iinc 6 1, 3) := dk_132 6 1 (dk_at dksX3_did_7 16 rfl rfl)
theorem dX3_did_185 : decode cX3_did 185 = .ok (.goto (-132), 3) := dk_167 255 124 (dk_at dksX3_did_7 19 rfl rfl)
theorem dX3_did_188 : decode cX3_did 188 = .ok (.iload_n 2, 1) := dk_28 (dk_at dksX3_did_7 22 rfl rfl)
theorem dX3_did_189 : decode cX3_did 189 = .ok (.ifCond .ne 31, 3) := dk_154 0 31 (dk_at dksX3_did_8 0 rfl rfl)
theorem dX3_did_192 : decode cX3_did 192 = .ok (.aload_n 0, 1) := dk_42 (dk_at dksX3_did_8 3 rfl rfl)
theorem dX3_did_193 : decode cX3_did 193 = .ok (.getfield 85, 3) := dk_180 0 85 (dk_at dksX3_did_8 4 rfl rfl)
theorem dX3_did_196 : decode cX3_did 196 = .ok (.iconst 0, 1) := dk_3 (dk_at dksX3_did_8 7 rfl rfl)
theorem dX3_did_197 : decode cX3_did 197 = .ok (.iaload, 1) := dk_46 (dk_at dksX3_did_8 8 rfl rfl)
theorem dX3_did_198 : decode cX3_did 198 = .ok (.ifCond .ne 7, 3) := dk_154 0 7 (dk_at dksX3_did_8 9 rfl rfl)
theorem dX3_did_201 : decode cX3_did 201 = .ok (.iconst 0, 1) := dk_3 (dk_at dksX3_did_8 12 rfl rfl)
theorem dX3_did_202 : decode cX3_did 202 = .ok (.goto 44, 3) := dk_167 0 44 (dk_at dksX3_did_8 13 rfl rfl)
theorem dX3_did_205 : decode cX3_did 205 = .ok (.sipush 1000, 3) := dk_17 3 232 (dk_at dksX3_did_8 16 rfl rfl)
theorem dX3_did_208 : decode cX3_did 208 = .ok (.iload_n 3, 1) := dk_29 (dk_at dksX3_did_8 19 rfl rfl)
theorem dX3_did_209 : decode cX3_did 209 = .ok (.imul, 1) := dk_104 (dk_at dksX3_did_8 20 rfl rfl)
theorem dX3_did_210 : decode cX3_did 210 = .ok (.aload_n 0, 1) := dk_42 (dk_at dksX3_did_8 21 rfl rfl)
theorem dX3_did_211 : decode cX3_did 211 = .ok (.getfield 85, 3) := dk_180 0 85 (dk_at dksX3_did_9 0 rfl rfl)
theorem dX3_did_214 : decode cX3_did 214 = .ok (.iconst 0, 1) := dk_3 (dk_at dksX3_did_9 3 rfl rfl)
theorem dX3_did_215 : decode cX3_did 215 = .ok (.iaload, 1) := dk_46 (dk_at dksX3_did_9 4 rfl rfl)
theorem dX3_did_216 : decode cX3_did 216 = .ok (.idiv, 1) := dk_108 (dk_at dksX3_did_9 5 rfl rfl)
theorem dX3_did_217 : decode cX3_did 217 = .ok (.goto 29, 3) := dk_167 0 29 (dk_at dksX3_did_9 6 rfl rfl)
theorem dX3_did_220 : decode cX3_did 220 = .ok (.iload_n 2, 1) := dk_28 (dk_at dksX3_did_9 9 rfl rfl)
theorem dX3_did_221 : decode cX3_did 221 = .ok (.iconst 1, 1) := dk_4 (dk_at dksX3_did_9 10 rfl rfl)
theorem dX3_did_222 : decode cX3_did 222 = .ok (.if_icmp .ne 8, 3) := dk_160 0 8 (dk_at dksX3_did_9 11 rfl rfl)
theorem dX3_did_225 : decode cX3_did 225 = .ok (.iload 4, 2) := dk_21 4 (dk_at dksX3_did_9 14 rfl rfl)
theorem dX3_did_227 : decode cX3_did 227 = .ok (.goto 19, 3) := dk_167 0 19 (dk_at dksX3_did_9 16 rfl rfl)
theorem dX3_did_230 : decode cX3_did 230 = .ok (.iload_n 2, 1) := dk_28 (dk_at dksX3_did_9 19 rfl rfl)
theorem dX3_did_231 : decode cX3_did 231 = .ok (.iconst 2, 1) := dk_5 (dk_at dksX3_did_9 20 rfl rfl)
theorem dX3_did_232 : decode cX3_did 232 = .ok (.if_icmp .ne 8, 3) := dk_160 0 8 (dk_at dksX3_did_9 21 rfl rfl)
theorem dX3_did_235 : decode cX3_did 235 = .ok (.iload 5, 2) := dk_21 5 (dk_at dksX3_did_10 0 rfl rfl)
theorem dX3_did_237 : decode cX3_did 237 = .ok (.goto 9, 3) := dk_167 0 9 (dk_at dksX3_did_10 2 rfl rfl)
theorem dX3_did_240 : decode cX3_did 240 = .ok (.aload_n 0, 1) := dk_42 (dk_at dksX3_did_10 5 rfl rfl)
theorem dX3_did_241 : decode cX3_did 241 = .ok (.getfield 121, 3) := dk_180 0 121 (dk_at dksX3_did_10 6 rfl rfl)
theorem dX3_did_244 : decode cX3_did 244 = .ok (.iload_n 1, 1) := dk_27 (dk_at dksX3_did_10 9 rfl rfl)
theorem dX3_did_245 : decode cX3_did 245 = .ok (.iaload, 1) := dk_46 (dk_at dksX3_did_10 10 rfl rfl)
theorem dX3_did_246 : decode cX3_did 246 = .ok (.ireturn, 1) := dk_172 (dk_at dksX3_did_10 11 rfl rfl)
abbrev cX3_first : ByteArray := prog_34_method_73_code
def yX3_first : MethodName := ⟨RX3, "first", "(II)I"⟩
def dkwX3_first_2 : List UInt8 := [167, 0, 9, 42, 180, 0, 118, 27, 46, 172]
abbrev dktX3_first_2 : List UInt8 := dkwX3_first_2 ++ []
def dkwX3_first_1 : List UInt8 := [133, 9, 10, 184, 0, 162, 154, 0, 6, 18, 218, 172, 28, 154, 0, 12, 42, 180, 0, 115, 27, 46]
abbrev dktX3_first_1 : List UInt8 := dkwX3_first_1 ++ dktX3_first_2
def dkwX3_first_0 : List UInt8 := [42, 180, 0, 150, 155, 0, 29, 27, 133, 9, 42, 180, 1, 129, 4, 100, 133, 184, 0, 162, 153, 0, 13, 28]
abbrev dktX3_first_0 : List UInt8 := dkwX3_first_0 ++ dktX3_first_1
theorem dksX3_first_0 : cX3_first.data.toList.drop 0 = dktX3_first_0 := by decide +kernel
theorem dksX3_first_1 : cX3_first.data.toList.drop 24 = dktX3_first_1 := dk_seg dksX3_first_0 24 rfl rfl
theorem dksX3_first_2 : cX3_first.data.toList.drop 46 = dktX3_first_2 := dk_seg dksX3_first_1 22 rfl rfl
theorem dX3_first_0 : decode cX3_first 0 = .ok (.aload_n 0, 1) := dk_42 (dk_at dksX3_first_0 0 rfl rfl)
theorem dX3_first_1 : decode cX3_first 1 = .ok (.getfield 150, 3) := dk_180 0 150 (dk_at dksX3_first_0 1 rfl rfl)
theorem dX3_first_4 : decode cX3_first 4 = .ok (.ifCond .lt 29, 3) := dk_155 0 29 (dk_at dksX3_first_0 4 rfl rfl)
theorem dX3_first_7 : decode cX3_first 7 = .ok (.iload_n 1, 1) := dk_27 (dk_at dksX3_first_0 7 rfl rfl)
theorem dX3_first_8 : decode cX3_first 8 = .ok (.i2l, 1) := dk_133 (dk_at dksX3_first_0 8 rfl rfl)
theorem dX3_first_9 : decode cX3_first 9 = .ok (.lconst 0, 1) := dk_9 (dk_at dksX3_first_0 9 rfl rfl)
theorem dX3_first_10 : decode cX3_first 10 = .ok (.aload_n 0, 1) := dk_42 (dk_at dksX3_first_0 10 rfl rfl)
theorem dX3_first_11 : decode cX3_first 11 = .ok (.getfield 385, 3) := dk_180 1 129 (dk_at dksX3_first_0 11 rfl rfl)
theorem dX3_first_14 : decode cX3_first 14 = .ok (.iconst 1, 1) := dk_4 (dk_at dksX3_first_0 14 rfl rfl)
theorem dX3_first_15 : decode cX3_first 15 = .ok (.isub, 1) := dk_100 (dk_at dksX3_first_0 15 rfl rfl)
theorem dX3_first_16 : decode cX3_first 16 = .ok (.i2l, 1) := dk_133 (dk_at dksX3_first_0 16 rfl rfl)
theorem dX3_first_17 : decode cX3_first 17 = .ok (.invokestatic 162, 3) := dk_184 0 162 (dk_at dksX3_first_0 17 rfl rfl)
theorem dX3_first_20 : decode cX3_first 20 = .ok (.ifCond .eq 13, 3) := dk_153 0 13 (dk_at dksX3_first_0 20 rfl rfl)
theorem dX3_first_23 : decode cX3_first 23 = .ok (.iload_n 2, 1) := dk_28 (dk_at dksX3_first_0 23 rfl rfl)
theorem dX3_first_24 : decode cX3_first 24 = .ok (.i2l, 1) := dk_133 (dk_at dksX3_first_1 0 rfl rfl)
theorem dX3_first_25 : decode cX3_first 25 = .ok (.lconst 0, 1) := dk_9 (dk_at dksX3_first_1 1 rfl rfl)
theorem dX3_first_26 : decode cX3_first 26 = .ok (.lconst 1, 1) := dk_10 (dk_at dksX3_first_1 2 rfl rfl)
theorem dX3_first_27 : decode cX3_first 27 = .ok (.invokestatic 162, 3) := dk_184 0 162 (dk_at dksX3_first_1 3 rfl rfl)
theorem dX3_first_30 : decode cX3_first 30 = .ok (.ifCond .ne 6, 3) := dk_154 0 6 (dk_at dksX3_first_1 6 rfl rfl)
theorem dX3_first_33 : decode cX3_first 33 = .ok (.ldc 218, 2) := dk_18 218 (dk_at dksX3_first_1 9 rfl rfl)
theorem dX3_first_35 : decode cX3_first 35 = .ok (.ireturn, 1) := dk_172 (dk_at dksX3_first_1 11 rfl rfl)
theorem dX3_first_36 : decode cX3_first 36 = .ok (.iload_n 2, 1) := dk_28 (dk_at dksX3_first_1 12 rfl rfl)
theorem dX3_first_37 : decode cX3_first 37 = .ok (.ifCond .ne 12, 3) := dk_154 0 12 (dk_at dksX3_first_1 13 rfl rfl)
theorem dX3_first_40 : decode cX3_first 40 = .ok (.aload_n 0, 1) := dk_42 (dk_at dksX3_first_1 16 rfl rfl)
theorem dX3_first_41 : decode cX3_first 41 = .ok (.getfield 115, 3) := dk_180 0 115 (dk_at dksX3_first_1 17 rfl rfl)
theorem dX3_first_44 : decode cX3_first 44 = .ok (.iload_n 1, 1) := dk_27 (dk_at dksX3_first_1 20 rfl rfl)
theorem dX3_first_45 : decode cX3_first 45 = .ok (.iaload, 1) := dk_46 (dk_at dksX3_first_1 21 rfl rfl)
theorem dX3_first_46 : decode cX3_first 46 = .ok (.goto 9, 3) := dk_167 0 9 (dk_at dksX3_first_2 0 rfl rfl)
theorem dX3_first_49 : decode cX3_first 49 = .ok (.aload_n 0, 1) := dk_42 (dk_at dksX3_first_2 3 rfl rfl)
theorem dX3_first_50 : decode cX3_first 50 = .ok (.getfield 118, 3) := dk_180 0 118 (dk_at dksX3_first_2 4 rfl rfl)
theorem dX3_first_53 : decode cX3_first 53 = .ok (.iload_n 1, 1) := dk_27 (dk_at dksX3_first_2 7 rfl rfl)
theorem dX3_first_54 : decode cX3_first 54 = .ok (.iaload, 1) := dk_46 (dk_at dksX3_first_2 8 rfl rfl)
theorem dX3_first_55 : decode cX3_first 55 = .ok (.ireturn, 1) := dk_172 (dk_at dksX3_first_2 9 rfl rfl)
abbrev cX3_rule : ByteArray := prog_34_method_76_code
def yX3_rule : MethodName := ⟨RX3, "rule", "(I)I"⟩
def dkwX3_rule_2 : List UInt8 := [182, 1, 179, 132, 2, 1, 167, 255, 237, 42, 27, 182, 1, 182, 172]
abbrev dktX3_rule_2 : List UInt8 := dkwX3_rule_2 ++ []
def dkwX3_rule_1 : List UInt8 := [42, 182, 1, 132, 42, 2, 181, 1, 168, 3, 61, 28, 16, 6, 162, 0, 19, 42, 28, 181, 1, 24, 42, 28]
abbrev dktX3_rule_1 : List UInt8 := dkwX3_rule_1 ++ dktX3_rule_2
def dkwX3_rule_0 : List UInt8 := [27, 133, 9, 20, 1, 177, 184, 0, 162, 154, 0, 5, 2, 172, 42, 182, 1, 138, 154, 0, 6, 16, 251, 172]
abbrev dktX3_rule_0 : List UInt8 := dkwX3_rule_0 ++ dktX3_rule_1
theorem dksX3_rule_0 : cX3_rule.data.toList.drop 0 = dktX3_rule_0 := by decide +kernel
theorem dksX3_rule_1 : cX3_rule.data.toList.drop 24 = dktX3_rule_1 := dk_seg dksX3_rule_0 24 rfl rfl
theorem dksX3_rule_2 : cX3_rule.data.toList.drop 48 = dktX3_rule_2 := dk_seg dksX3_rule_1 24 rfl rfl
theorem dX3_rule_0 : decode cX3_rule 0 = .ok (.iload_n 1, 1) := dk_27 (dk_at dksX3_rule_0 0 rfl rfl)
theorem dX3_rule_1 : decode cX3_rule 1 = .ok (.i2l, 1) := dk_133 (dk_at dksX3_rule_0 1 rfl rfl)
theorem dX3_rule_2 : decode cX3_rule 2 = .ok (.lconst 0, 1) := dk_9 (dk_at dksX3_rule_0 2 rfl rfl)
theorem dX3_rule_3 : decode cX3_rule 3 = .ok (.ldc2_w 433, 3) := dk_20 1 177 (dk_at dksX3_rule_0 3 rfl rfl)
theorem dX3_rule_6 : decode cX3_rule 6 = .ok (.invokestatic 162, 3) := dk_184 0 162 (dk_at dksX3_rule_0 6 rfl rfl)
theorem dX3_rule_9 : decode cX3_rule 9 = .ok (.ifCond .ne 5, 3) := dk_154 0 5 (dk_at dksX3_rule_0 9 rfl rfl)
theorem dX3_rule_12 : decode cX3_rule 12 = .ok (.iconst (-1), 1) := dk_2 (dk_at dksX3_rule_0 12 rfl rfl)
theorem dX3_rule_13 : decode cX3_rule 13 = .ok (.ireturn, 1) := dk_172 (dk_at dksX3_rule_0 13 rfl rfl)
theorem dX3_rule_14 : decode cX3_rule 14 = .ok (.aload_n 0, 1) := dk_42 (dk_at dksX3_rule_0 14 rfl rfl)
theorem dX3_rule_15 : decode cX3_rule 15 = .ok (.invokevirtual 394, 3) := dk_182 1 138 (dk_at dksX3_rule_0 15 rfl rfl)
theorem dX3_rule_18 : decode cX3_rule 18 = .ok (.ifCond .ne 6, 3) := dk_154 0 6 (dk_at dksX3_rule_0 18 rfl rfl)
theorem dX3_rule_21 : decode cX3_rule 21 = .ok (.bipush (-5), 2) := dk_16 251 (dk_at dksX3_rule_0 21 rfl rfl)
theorem dX3_rule_23 : decode cX3_rule 23 = .ok (.ireturn, 1) := dk_172 (dk_at dksX3_rule_0 23 rfl rfl)
theorem dX3_rule_24 : decode cX3_rule 24 = .ok (.aload_n 0, 1) := dk_42 (dk_at dksX3_rule_1 0 rfl rfl)
theorem dX3_rule_25 : decode cX3_rule 25 = .ok (.invokevirtual 388, 3) := dk_182 1 132 (dk_at dksX3_rule_1 1 rfl rfl)
theorem dX3_rule_28 : decode cX3_rule 28 = .ok (.aload_n 0, 1) := dk_42 (dk_at dksX3_rule_1 4 rfl rfl)
theorem dX3_rule_29 : decode cX3_rule 29 = .ok (.iconst (-1), 1) := dk_2 (dk_at dksX3_rule_1 5 rfl rfl)
theorem dX3_rule_30 : decode cX3_rule 30 = .ok (.putfield 424, 3) := dk_181 1 168 (dk_at dksX3_rule_1 6 rfl rfl)
theorem dX3_rule_33 : decode cX3_rule 33 = .ok (.iconst 0, 1) := dk_3 (dk_at dksX3_rule_1 9 rfl rfl)
theorem dX3_rule_34 : decode cX3_rule 34 = .ok (.istore_n 2, 1) := dk_61 (dk_at dksX3_rule_1 10 rfl rfl)
theorem dX3_rule_35 : decode cX3_rule 35 = .ok (.iload_n 2, 1) := dk_28 (dk_at dksX3_rule_1 11 rfl rfl)
theorem dX3_rule_36 : decode cX3_rule 36 = .ok (.bipush 6, 2) := dk_16 6 (dk_at dksX3_rule_1 12 rfl rfl)
theorem dX3_rule_38 : decode cX3_rule 38 = .ok (.if_icmp .ge 19, 3) := dk_162 0 19 (dk_at dksX3_rule_1 14 rfl rfl)
theorem dX3_rule_41 : decode cX3_rule 41 = .ok (.aload_n 0, 1) := dk_42 (dk_at dksX3_rule_1 17 rfl rfl)
theorem dX3_rule_42 : decode cX3_rule 42 = .ok (.iload_n 2, 1) := dk_28 (dk_at dksX3_rule_1 18 rfl rfl)
theorem dX3_rule_43 : decode cX3_rule 43 = .ok (.putfield 280, 3) := dk_181 1 24 (dk_at dksX3_rule_1 19 rfl rfl)
theorem dX3_rule_46 : decode cX3_rule 46 = .ok (.aload_n 0, 1) := dk_42 (dk_at dksX3_rule_1 22 rfl rfl)
theorem dX3_rule_47 : decode cX3_rule 47 = .ok (.iload_n 2, 1) := dk_28 (dk_at dksX3_rule_1 23 rfl rfl)
theorem dX3_rule_48 : decode cX3_rule 48 = .ok (.invokevirtual 435, 3) := dk_182 1 179 (dk_at dksX3_rule_2 0 rfl rfl)
theorem dX3_rule_51 : decode cX3_rule 51 = .ok (.iinc 2 1, 3) := dk_132 2 1 (dk_at dksX3_rule_2 3 rfl rfl)
theorem dX3_rule_54 : decode cX3_rule 54 = .ok (.goto (-19), 3) := dk_167 255 237 (dk_at dksX3_rule_2 6 rfl rfl)
theorem dX3_rule_57 : decode cX3_rule 57 = .ok (.aload_n 0, 1) := dk_42 (dk_at dksX3_rule_2 9 rfl rfl)
theorem dX3_rule_58 : decode cX3_rule 58 = .ok (.iload_n 1, 1) := dk_27 (dk_at dksX3_rule_2 10 rfl rfl)
theorem dX3_rule_59 : decode cX3_rule 59 = .ok (.invokevirtual 438, 3) := dk_182 1 182 (dk_at dksX3_rule_2 11 rfl rfl)
theorem dX3_rule_62 : decode cX3_rule 62 = .ok (.ireturn, 1) := dk_172 (dk_at dksX3_rule_2 14 rfl rfl)
abbrev cX3_looksAt : ByteArray := prog_34_method_74_code
def yX3_looksAt : MethodName := ⟨RX3, "looksAt", "(I)V"⟩
def dkwX3_looksAt_2 : List UInt8 := [181, 1, 168, 42, 28, 181, 1, 171, 42, 29, 181, 1, 174, 177]
abbrev dktX3_looksAt_2 : List UInt8 := dkwX3_looksAt_2 ++ []
def dkwX3_looksAt_1 : List UInt8 := [180, 1, 171, 161, 0, 19, 28, 42, 180, 1, 171, 160, 0, 26, 29, 42, 180, 1, 174, 162, 0, 18, 42, 27]
abbrev dktX3_looksAt_1 : List UInt8 := dkwX3_looksAt_1 ++ dktX3_looksAt_2
def dkwX3_looksAt_0 : List UInt8 := [42, 182, 1, 142, 42, 182, 1, 165, 61, 42, 182, 1, 155, 62, 42, 180, 1, 168, 155, 0, 27, 28, 42]
abbrev dktX3_looksAt_0 : List UInt8 := dkwX3_looksAt_0 ++ dktX3_looksAt_1
theorem dksX3_looksAt_0 : cX3_looksAt.data.toList.drop 0 = dktX3_looksAt_0 := by decide +kernel
theorem dksX3_looksAt_1 : cX3_looksAt.data.toList.drop 23 = dktX3_looksAt_1 := dk_seg dksX3_looksAt_0 23 rfl rfl
theorem dksX3_looksAt_2 : cX3_looksAt.data.toList.drop 47 = dktX3_looksAt_2 := dk_seg dksX3_looksAt_1 24 rfl rfl
theorem dX3_looksAt_0 : decode cX3_looksAt 0 = .ok (.aload_n 0, 1) := dk_42 (dk_at dksX3_looksAt_0 0 rfl rfl)
theorem dX3_looksAt_1 : decode cX3_looksAt 1 = .ok (.invokevirtual 398, 3) := dk_182 1 142 (dk_at dksX3_looksAt_0 1 rfl rfl)
theorem dX3_looksAt_4 : decode cX3_looksAt 4 = .ok (.aload_n 0, 1) := dk_42 (dk_at dksX3_looksAt_0 4 rfl rfl)
theorem dX3_looksAt_5 : decode cX3_looksAt 5 = .ok (.invokevirtual 421, 3) := dk_182 1 165 (dk_at dksX3_looksAt_0 5 rfl rfl)
theorem dX3_looksAt_8 : decode cX3_looksAt 8 = .ok (.istore_n 2, 1) := dk_61 (dk_at dksX3_looksAt_0 8 rfl rfl)
theorem dX3_looksAt_9 : decode cX3_looksAt 9 = .ok (.aload_n 0, 1) := dk_42 (dk_at dksX3_looksAt_0 9 rfl rfl)
theorem dX3_looksAt_10 : decode cX3_looksAt 10 = .ok (.invokevirtual 411, 3) := dk_182 1 155 (dk_at dksX3_looksAt_0 10 rfl rfl)
theorem dX3_looksAt_13 : decode cX3_looksAt 13 = .ok (.istore_n 3, 1) := dk_62 (dk_at dksX3_looksAt_0 13 rfl rfl)
theorem dX3_looksAt_14 : decode cX3_looksAt 14 = .ok (.aload_n 0, 1) := dk_42 (dk_at dksX3_looksAt_0 14 rfl rfl)
theorem dX3_looksAt_15 : decode cX3_looksAt 15 = .ok (.getfield 424, 3) := dk_180 1 168 (dk_at dksX3_looksAt_0 15 rfl rfl)
theorem dX3_looksAt_18 : decode cX3_looksAt 18 = .ok (.ifCond .lt 27, 3) := dk_155 0 27 (dk_at dksX3_looksAt_0 18 rfl rfl)
theorem dX3_looksAt_21 : decode cX3_looksAt 21 = .ok (.iload_n 2, 1) := dk_28 (dk_at dksX3_looksAt_0 21 rfl rfl)
theorem dX3_looksAt_22 : decode cX3_looksAt 22 = .ok (.aload_n 0, 1) := dk_42 (dk_at dksX3_looksAt_0 22 rfl rfl)
theorem dX3_looksAt_23 : decode cX3_looksAt 23 = .ok (.getfield 427, 3) := dk_180 1 171 (dk_at dksX3_looksAt_1 0 rfl rfl)
theorem dX3_looksAt_26 : decode cX3_looksAt 26 = .ok (.if_icmp .lt 19, 3) := dk_161 0 19 (dk_at dksX3_looksAt_1 3 rfl rfl)
theorem dX3_looksAt_29 : decode cX3_looksAt 29 = .ok (.iload_n 2, 1) := dk_28 (dk_at dksX3_looksAt_1 6 rfl rfl)
theorem dX3_looksAt_30 : decode cX3_looksAt 30 = .ok (.aload_n 0, 1) := dk_42 (dk_at dksX3_looksAt_1 7 rfl rfl)
theorem dX3_looksAt_31 : decode cX3_looksAt 31 = .ok (.getfield 427, 3) := dk_180 1 171 (dk_at dksX3_looksAt_1 8 rfl rfl)
theorem dX3_looksAt_34 : decode cX3_looksAt 34 = .ok (.if_icmp .ne 26, 3) := dk_160 0 26 (dk_at dksX3_looksAt_1 11 rfl rfl)
theorem dX3_looksAt_37 : decode cX3_looksAt 37 = .ok (.iload_n 3, 1) := dk_29 (dk_at dksX3_looksAt_1 14 rfl rfl)
theorem dX3_looksAt_38 : decode cX3_looksAt 38 = .ok (.aload_n 0, 1) := dk_42 (dk_at dksX3_looksAt_1 15 rfl rfl)
theorem dX3_looksAt_39 : decode cX3_looksAt 39 = .ok (.getfield 430, 3) := dk_180 1 174 (dk_at dksX3_looksAt_1 16 rfl rfl)
theorem dX3_looksAt_42 : decode cX3_looksAt 42 = .ok (.if_icmp .ge 18, 3) := dk_162 0 18 (dk_at dksX3_looksAt_1 19 rfl rfl)
theorem dX3_looksAt_45 : decode cX3_looksAt 45 = .ok (.aload_n 0, 1) := dk_42 (dk_at dksX3_looksAt_1 22 rfl rfl)
theorem dX3_looksAt_46 : decode cX3_looksAt 46 = .ok (.iload_n 1, 1) := dk_27 (dk_at dksX3_looksAt_1 23 rfl rfl)
theorem dX3_looksAt_47 : decode cX3_looksAt 47 = .ok (.putfield 424, 3) := dk_181 1 168 (dk_at dksX3_looksAt_2 0 rfl rfl)
theorem dX3_looksAt_50 : decode cX3_looksAt 50 = .ok (.aload_n 0, 1) := dk_42 (dk_at dksX3_looksAt_2 3 rfl rfl)
theorem dX3_looksAt_51 : decode cX3_looksAt 51 = .ok (.iload_n 2, 1) := dk_28 (dk_at dksX3_looksAt_2 4 rfl rfl)
theorem dX3_looksAt_52 : decode cX3_looksAt 52 = .ok (.putfield 427, 3) := dk_181 1 171 (dk_at dksX3_looksAt_2 5 rfl rfl)
theorem dX3_looksAt_55 : decode cX3_looksAt 55 = .ok (.aload_n 0, 1) := dk_42 (dk_at dksX3_looksAt_2 8 rfl rfl)
theorem dX3_looksAt_56 : decode cX3_looksAt 56 = .ok (.iload_n 3, 1) := dk_29 (dk_at dksX3_looksAt_2 9 rfl rfl)
theorem dX3_looksAt_57 : decode cX3_looksAt 57 = .ok (.putfield 430, 3) := dk_181 1 174 (dk_at dksX3_looksAt_2 10 rfl rfl)
theorem dX3_looksAt_60 : decode cX3_looksAt 60 = .ok (.return_, 1) := dk_177 (dk_at dksX3_looksAt_2 13 rfl rfl)
abbrev cX3_wrongMany : ByteArray := prog_34_method_58_code
def yX3_wrongMany : MethodName := ⟨RX3, "wrongMany", "()I"⟩
def dkwX3_wrongMany_0 : List UInt8 := [42, 182, 1, 105, 42, 182, 1, 108, 130, 184, 1, 111, 172]
abbrev dktX3_wrongMany_0 : List UInt8 := dkwX3_wrongMany_0 ++ []
theorem dksX3_wrongMany_0 : cX3_wrongMany.data.toList.drop 0 = dktX3_wrongMany_0 := by decide +kernel
theorem dX3_wrongMany_0 : decode cX3_wrongMany 0 = .ok (.aload_n 0, 1) := dk_42 (dk_at dksX3_wrongMany_0 0 rfl rfl)
theorem dX3_wrongMany_1 : decode cX3_wrongMany 1 = .ok (.invokevirtual 361, 3) := dk_182 1 105 (dk_at dksX3_wrongMany_0 1 rfl rfl)
theorem dX3_wrongMany_4 : decode cX3_wrongMany 4 = .ok (.aload_n 0, 1) := dk_42 (dk_at dksX3_wrongMany_0 4 rfl rfl)
theorem dX3_wrongMany_5 : decode cX3_wrongMany 5 = .ok (.invokevirtual 364, 3) := dk_182 1 108 (dk_at dksX3_wrongMany_0 5 rfl rfl)
theorem dX3_wrongMany_8 : decode cX3_wrongMany 8 = .ok (.ixor, 1) := dk_130 (dk_at dksX3_wrongMany_0 8 rfl rfl)
theorem dX3_wrongMany_9 : decode cX3_wrongMany 9 = .ok (.invokestatic 367, 3) := dk_184 1 111 (dk_at dksX3_wrongMany_0 9 rfl rfl)
theorem dX3_wrongMany_12 : decode cX3_wrongMany 12 = .ok (.ireturn, 1) := dk_172 (dk_at dksX3_wrongMany_0 12 rfl rfl)
abbrev cX3_bestTold : ByteArray := prog_34_method_75_code
def yX3_bestTold : MethodName := ⟨RX3, "bestTold", "(I)I"⟩
def dkwX3_bestTold_1 : List UInt8 := [180, 1, 174, 172]
abbrev dktX3_bestTold_1 : List UInt8 := dkwX3_bestTold_1 ++ []
def dkwX3_bestTold_0 : List UInt8 := [27, 154, 0, 10, 42, 180, 1, 168, 167, 0, 19, 27, 4, 160, 0, 10, 42, 180, 1, 171, 167, 0, 7, 42]
abbrev dktX3_bestTold_0 : List UInt8 := dkwX3_bestTold_0 ++ dktX3_bestTold_1
theorem dksX3_bestTold_0 : cX3_bestTold.data.toList.drop 0 = dktX3_bestTold_0 := by decide +kernel
theorem dksX3_bestTold_1 : cX3_bestTold.data.toList.drop 24 = dktX3_bestTold_1 := dk_seg dksX3_bestTold_0 24 rfl rfl
theorem dX3_bestTold_0 : decode cX3_bestTold 0 = .ok (.iload_n 1, 1) := dk_27 (dk_at dksX3_bestTold_0 0 rfl rfl)
theorem dX3_bestTold_1 : decode cX3_bestTold 1 = .ok (.ifCond .ne 10, 3) := dk_154 0 10 (dk_at dksX3_bestTold_0 1 rfl rfl)
theorem dX3_bestTold_4 : decode cX3_bestTold 4 = .ok (.aload_n 0, 1) := dk_42 (dk_at dksX3_bestTold_0 4 rfl rfl)
theorem dX3_bestTold_5 : decode cX3_bestTold 5 = .ok (.getfield 424, 3) := dk_180 1 168 (dk_at dksX3_bestTold_0 5 rfl rfl)
theorem dX3_bestTold_8 : decode cX3_bestTold 8 = .ok (.goto 19, 3) := dk_167 0 19 (dk_at dksX3_bestTold_0 8 rfl rfl)
theorem dX3_bestTold_11 : decode cX3_bestTold 11 = .ok (.iload_n 1, 1) := dk_27 (dk_at dksX3_bestTold_0 11 rfl rfl)
theorem dX3_bestTold_12 : decode cX3_bestTold 12 = .ok (.iconst 1, 1) := dk_4 (dk_at dksX3_bestTold_0 12 rfl rfl)
theorem dX3_bestTold_13 : decode cX3_bestTold 13 = .ok (.if_icmp .ne 10, 3) := dk_160 0 10 (dk_at dksX3_bestTold_0 13 rfl rfl)
theorem dX3_bestTold_16 : decode cX3_bestTold 16 = .ok (.aload_n 0, 1) := dk_42 (dk_at dksX3_bestTold_0 16 rfl rfl)
theorem dX3_bestTold_17 : decode cX3_bestTold 17 = .ok (.getfield 427, 3) := dk_180 1 171 (dk_at dksX3_bestTold_0 17 rfl rfl)
theorem dX3_bestTold_20 : decode cX3_bestTold 20 = .ok (.goto 7, 3) := dk_167 0 7 (dk_at dksX3_bestTold_0 20 rfl rfl)
theorem dX3_bestTold_23 : decode cX3_bestTold 23 = .ok (.aload_n 0, 1) := dk_42 (dk_at dksX3_bestTold_0 23 rfl rfl)
theorem dX3_bestTold_24 : decode cX3_bestTold 24 = .ok (.getfield 430, 3) := dk_180 1 174 (dk_at dksX3_bestTold_1 0 rfl rfl)
theorem dX3_bestTold_27 : decode cX3_bestTold 27 = .ok (.ireturn, 1) := dk_172 (dk_at dksX3_bestTold_1 3 rfl rfl)
abbrev cX3_order : ByteArray := prog_34_method_78_code
def yX3_order : MethodName := ⟨RX3, "order", "(I)I"⟩
def dkwX3_order_2 : List UInt8 := [182, 1, 185, 42, 27, 182, 1, 182, 172]
abbrev dktX3_order_2 : List UInt8 := dkwX3_order_2 ++ []
def dkwX3_order_1 : List UInt8 := [180, 0, 166, 8, 164, 0, 6, 16, 251, 172, 42, 182, 1, 132, 42, 2, 181, 1, 168, 42, 3, 3, 3]
abbrev dktX3_order_1 : List UInt8 := dkwX3_order_1 ++ dktX3_order_2
def dkwX3_order_0 : List UInt8 := [27, 133, 9, 20, 1, 177, 184, 0, 162, 154, 0, 5, 2, 172, 42, 182, 1, 138, 153, 0, 11, 42]
abbrev dktX3_order_0 : List UInt8 := dkwX3_order_0 ++ dktX3_order_1
theorem dksX3_order_0 : cX3_order.data.toList.drop 0 = dktX3_order_0 := by decide +kernel
theorem dksX3_order_1 : cX3_order.data.toList.drop 22 = dktX3_order_1 := dk_seg dksX3_order_0 22 rfl rfl
theorem dksX3_order_2 : cX3_order.data.toList.drop 45 = dktX3_order_2 := dk_seg dksX3_order_1 23 rfl rfl
theorem dX3_order_0 : decode cX3_order 0 = .ok (.iload_n 1, 1) := dk_27 (dk_at dksX3_order_0 0 rfl rfl)
theorem dX3_order_1 : decode cX3_order 1 = .ok (.i2l, 1) := dk_133 (dk_at dksX3_order_0 1 rfl rfl)
theorem dX3_order_2 : decode cX3_order 2 = .ok (.lconst 0, 1) := dk_9 (dk_at dksX3_order_0 2 rfl rfl)
theorem dX3_order_3 : decode cX3_order 3 = .ok (.ldc2_w 433, 3) := dk_20 1 177 (dk_at dksX3_order_0 3 rfl rfl)
theorem dX3_order_6 : decode cX3_order 6 = .ok (.invokestatic 162, 3) := dk_184 0 162 (dk_at dksX3_order_0 6 rfl rfl)
theorem dX3_order_9 : decode cX3_order 9 = .ok (.ifCond .ne 5, 3) := dk_154 0 5 (dk_at dksX3_order_0 9 rfl rfl)
theorem dX3_order_12 : decode cX3_order 12 = .ok (.iconst (-1), 1) := dk_2 (dk_at dksX3_order_0 12 rfl rfl)
theorem dX3_order_13 : decode cX3_order 13 = .ok (.ireturn, 1) := dk_172 (dk_at dksX3_order_0 13 rfl rfl)
theorem dX3_order_14 : decode cX3_order 14 = .ok (.aload_n 0, 1) := dk_42 (dk_at dksX3_order_0 14 rfl rfl)
theorem dX3_order_15 : decode cX3_order 15 = .ok (.invokevirtual 394, 3) := dk_182 1 138 (dk_at dksX3_order_0 15 rfl rfl)
theorem dX3_order_18 : decode cX3_order 18 = .ok (.ifCond .eq 11, 3) := dk_153 0 11 (dk_at dksX3_order_0 18 rfl rfl)
theorem dX3_order_21 : decode cX3_order 21 = .ok (.aload_n 0, 1) := dk_42 (dk_at dksX3_order_0 21 rfl rfl)
theorem dX3_order_22 : decode cX3_order 22 = .ok (.getfield 166, 3) := dk_180 0 166 (dk_at dksX3_order_1 0 rfl rfl)
theorem dX3_order_25 : decode cX3_order 25 = .ok (.iconst 5, 1) := dk_8 (dk_at dksX3_order_1 3 rfl rfl)
theorem dX3_order_26 : decode cX3_order 26 = .ok (.if_icmp .le 6, 3) := dk_164 0 6 (dk_at dksX3_order_1 4 rfl rfl)
theorem dX3_order_29 : decode cX3_order 29 = .ok (.bipush (-5), 2) := dk_16 251 (dk_at dksX3_order_1 7 rfl rfl)
theorem dX3_order_31 : decode cX3_order 31 = .ok (.ireturn, 1) := dk_172 (dk_at dksX3_order_1 9 rfl rfl)
theorem dX3_order_32 : decode cX3_order 32 = .ok (.aload_n 0, 1) := dk_42 (dk_at dksX3_order_1 10 rfl rfl)
theorem dX3_order_33 : decode cX3_order 33 = .ok (.invokevirtual 388, 3) := dk_182 1 132 (dk_at dksX3_order_1 11 rfl rfl)
theorem dX3_order_36 : decode cX3_order 36 = .ok (.aload_n 0, 1) := dk_42 (dk_at dksX3_order_1 14 rfl rfl)
theorem dX3_order_37 : decode cX3_order 37 = .ok (.iconst (-1), 1) := dk_2 (dk_at dksX3_order_1 15 rfl rfl)
theorem dX3_order_38 : decode cX3_order 38 = .ok (.putfield 424, 3) := dk_181 1 168 (dk_at dksX3_order_1 16 rfl rfl)
theorem dX3_order_41 : decode cX3_order 41 = .ok (.aload_n 0, 1) := dk_42 (dk_at dksX3_order_1 19 rfl rfl)
theorem dX3_order_42 : decode cX3_order 42 = .ok (.iconst 0, 1) := dk_3 (dk_at dksX3_order_1 20 rfl rfl)
theorem dX3_order_43 : decode cX3_order 43 = .ok (.iconst 0, 1) := dk_3 (dk_at dksX3_order_1 21 rfl rfl)
theorem dX3_order_44 : decode cX3_order 44 = .ok (.iconst 0, 1) := dk_3 (dk_at dksX3_order_1 22 rfl rfl)
theorem dX3_order_45 : decode cX3_order 45 = .ok (.invokevirtual 441, 3) := dk_182 1 185 (dk_at dksX3_order_2 0 rfl rfl)
theorem dX3_order_48 : decode cX3_order 48 = .ok (.aload_n 0, 1) := dk_42 (dk_at dksX3_order_2 3 rfl rfl)
theorem dX3_order_49 : decode cX3_order 49 = .ok (.iload_n 1, 1) := dk_27 (dk_at dksX3_order_2 4 rfl rfl)
theorem dX3_order_50 : decode cX3_order 50 = .ok (.invokevirtual 438, 3) := dk_182 1 182 (dk_at dksX3_order_2 5 rfl rfl)
theorem dX3_order_53 : decode cX3_order 53 = .ok (.ireturn, 1) := dk_172 (dk_at dksX3_order_2 8 rfl rfl)
abbrev cX3_goesOrders : ByteArray := prog_34_method_77_code
def yX3_goesOrders : MethodName := ⟨RX3, "goesOrders", "(III)V"⟩
def dkwX3_goesOrders_3 : List UInt8 := [177]
abbrev dktX3_goesOrders_3 : List UInt8 := dkwX3_goesOrders_3 ++ []
def dkwX3_goesOrders_2 : List UInt8 := [28, 4, 21, 4, 120, 128, 16, 10, 29, 104, 21, 4, 96, 4, 96, 182, 1, 185, 132, 4, 1, 167, 255, 205]
abbrev dktX3_goesOrders_2 : List UInt8 := dkwX3_goesOrders_2 ++ dktX3_goesOrders_3
def dkwX3_goesOrders_1 : List UInt8 := [162, 0, 48, 28, 21, 4, 122, 4, 126, 154, 0, 33, 42, 180, 0, 61, 27, 21, 4, 79, 42, 27, 4, 96]
abbrev dktX3_goesOrders_1 : List UInt8 := dkwX3_goesOrders_1 ++ dktX3_goesOrders_2
def dkwX3_goesOrders_0 : List UInt8 := [27, 42, 180, 0, 166, 160, 0, 9, 42, 29, 182, 1, 179, 177, 3, 54, 4, 21, 4, 42, 180, 0, 166]
abbrev dktX3_goesOrders_0 : List UInt8 := dkwX3_goesOrders_0 ++ dktX3_goesOrders_1
theorem dksX3_goesOrders_0 : cX3_goesOrders.data.toList.drop 0 = dktX3_goesOrders_0 := by decide +kernel
theorem dksX3_goesOrders_1 : cX3_goesOrders.data.toList.drop 23 = dktX3_goesOrders_1 := dk_seg dksX3_goesOrders_0 23 rfl rfl
theorem dksX3_goesOrders_2 : cX3_goesOrders.data.toList.drop 47 = dktX3_goesOrders_2 := dk_seg dksX3_goesOrders_1 24 rfl rfl
theorem dksX3_goesOrders_3 : cX3_goesOrders.data.toList.drop 71 = dktX3_goesOrders_3 := dk_seg dksX3_goesOrders_2 24 rfl rfl
theorem dX3_goesOrders_0 : decode cX3_goesOrders 0 = .ok (.iload_n 1, 1) := dk_27 (dk_at dksX3_goesOrders_0 0 rfl rfl)
theorem dX3_goesOrders_1 : decode cX3_goesOrders 1 = .ok (.aload_n 0, 1) := dk_42 (dk_at dksX3_goesOrders_0 1 rfl rfl)
theorem dX3_goesOrders_2 : decode cX3_goesOrders 2 = .ok (.getfield 166, 3) := dk_180 0 166 (dk_at dksX3_goesOrders_0 2 rfl rfl)
theorem dX3_goesOrders_5 : decode cX3_goesOrders 5 = .ok (.if_icmp .ne 9, 3) := dk_160 0 9 (dk_at dksX3_goesOrders_0 5 rfl rfl)
theorem dX3_goesOrders_8 : decode cX3_goesOrders 8 = .ok (.aload_n 0, 1) := dk_42 (dk_at dksX3_goesOrders_0 8 rfl rfl)
theorem dX3_goesOrders_9 : decode cX3_goesOrders 9 = .ok (.iload_n 3, 1) := dk_29 (dk_at dksX3_goesOrders_0 9 rfl rfl)
theorem dX3_goesOrders_10 : decode cX3_goesOrders 10 = .ok (.invokevirtual 435, 3) := dk_182 1 179 (dk_at dksX3_goesOrders_0 10 rfl rfl)
theorem dX3_goesOrders_13 : decode cX3_goesOrders 13 = .ok (.return_, 1) := dk_177 (dk_at dksX3_goesOrders_0 13 rfl rfl)
theorem dX3_goesOrders_14 : decode cX3_goesOrders 14 = .ok (.iconst 0, 1) := dk_3 (dk_at dksX3_goesOrders_0 14 rfl rfl)
theorem dX3_goesOrders_15 : decode cX3_goesOrders 15 = .ok (.istore 4, 2) := dk_54 4 (dk_at dksX3_goesOrders_0 15 rfl rfl)
theorem dX3_goesOrders_17 : decode cX3_goesOrders 17 = .ok (.iload 4, 2) := dk_21 4 (dk_at dksX3_goesOrders_0 17 rfl rfl)
theorem dX3_goesOrders_19 : decode cX3_goesOrders 19 = .ok (.aload_n 0, 1) := dk_42 (dk_at dksX3_goesOrders_0 19 rfl rfl)
theorem dX3_goesOrders_20 : decode cX3_goesOrders 20 = .ok (.getfield 166, 3) := dk_180 0 166 (dk_at dksX3_goesOrders_0 20 rfl rfl)
theorem dX3_goesOrders_23 : decode cX3_goesOrders 23 = .ok (.if_icmp .ge 48, 3) := dk_162 0 48 (dk_at dksX3_goesOrders_1 0 rfl rfl)
theorem dX3_goesOrders_26 : decode cX3_goesOrders 26 = .ok (.iload_n 2, 1) := dk_28 (dk_at dksX3_goesOrders_1 3 rfl rfl)
theorem dX3_goesOrders_27 : decode cX3_goesOrders 27 = .ok (.iload 4, 2) := dk_21 4 (dk_at dksX3_goesOrders_1 4 rfl rfl)
theorem dX3_goesOrders_29 : decode cX3_goesOrders 29 = .ok (.ishr, 1) := dk_122 (dk_at dksX3_goesOrders_1 6 rfl rfl)
theorem dX3_goesOrders_30 : decode cX3_goesOrders 30 = .ok (.iconst 1, 1) := dk_4 (dk_at dksX3_goesOrders_1 7 rfl rfl)
theorem dX3_goesOrders_31 : decode cX3_goesOrders 31 = .ok (.iand, 1) := dk_126 (dk_at dksX3_goesOrders_1 8 rfl rfl)
theorem dX3_goesOrders_32 : decode cX3_goesOrders 32 = .ok (.ifCond .ne 33, 3) := dk_154 0 33 (dk_at dksX3_goesOrders_1 9 rfl rfl)
theorem dX3_goesOrders_35 : decode cX3_goesOrders 35 = .ok (.aload_n 0, 1) := dk_42 (dk_at dksX3_goesOrders_1 12 rfl rfl)
theorem dX3_goesOrders_36 : decode cX3_goesOrders 36 = .ok (.getfield 61, 3) := dk_180 0 61 (dk_at dksX3_goesOrders_1 13 rfl rfl)
theorem dX3_goesOrders_39 : decode cX3_goesOrders 39 = .ok (.iload_n 1, 1) := dk_27 (dk_at dksX3_goesOrders_1 16 rfl rfl)
theorem dX3_goesOrders_40 : decode cX3_goesOrders 40 = .ok (.iload 4, 2) := dk_21 4 (dk_at dksX3_goesOrders_1 17 rfl rfl)
theorem dX3_goesOrders_42 : decode cX3_goesOrders 42 = .ok (.iastore, 1) := dk_79 (dk_at dksX3_goesOrders_1 19 rfl rfl)
theorem dX3_goesOrders_43 : decode cX3_goesOrders 43 = .ok (.aload_n 0, 1) := dk_42 (dk_at dksX3_goesOrders_1 20 rfl rfl)
theorem dX3_goesOrders_44 : decode cX3_goesOrders 44 = .ok (.iload_n 1, 1) := dk_27 (dk_at dksX3_goesOrders_1 21 rfl rfl)
theorem dX3_goesOrders_45 : decode cX3_goesOrders 45 = .ok (.iconst 1, 1) := dk_4 (dk_at dksX3_goesOrders_1 22 rfl rfl)
theorem dX3_goesOrders_46 : decode cX3_goesOrders 46 = .ok (.iadd, 1) := dk_96 (dk_at dksX3_goesOrders_1 23 rfl rfl)
theorem dX3_goesOrders_47 : decode cX3_goesOrders 47 = .ok (.iload_n 2, 1) := dk_28 (dk_at dksX3_goesOrders_2 0 rfl rfl)
theorem dX3_goesOrders_48 : decode cX3_goesOrders 48 = .ok (.iconst 1, 1) := dk_4 (dk_at dksX3_goesOrders_2 1 rfl rfl)
theorem dX3_goesOrders_49 : decode cX3_goesOrders 49 = .ok (.iload 4, 2) := dk_21 4 (dk_at dksX3_goesOrders_2 2 rfl rfl)
theorem dX3_goesOrders_51 : decode cX3_goesOrders 51 = .ok (.ishl, 1) := dk_120 (dk_at dksX3_goesOrders_2 4 rfl rfl)
theorem dX3_goesOrders_52 : decode cX3_goesOrders 52 = .ok (.ior, 1) := dk_128 (dk_at dksX3_goesOrders_2 5 rfl rfl)
theorem dX3_goesOrders_53 : decode cX3_goesOrders 53 = .ok (.bipush 10, 2) := dk_16 10 (dk_at dksX3_goesOrders_2 6 rfl rfl)
theorem dX3_goesOrders_55 : decode cX3_goesOrders 55 = .ok (.iload_n 3, 1) := dk_29 (dk_at dksX3_goesOrders_2 8 rfl rfl)
theorem dX3_goesOrders_56 : decode cX3_goesOrders 56 = .ok (.imul, 1) := dk_104 (dk_at dksX3_goesOrders_2 9 rfl rfl)
theorem dX3_goesOrders_57 : decode cX3_goesOrders 57 = .ok (.iload 4, 2) := dk_21 4 (dk_at dksX3_goesOrders_2 10 rfl rfl)
theorem dX3_goesOrders_59 : decode cX3_goesOrders 59 = .ok (.iadd, 1) := dk_96 (dk_at dksX3_goesOrders_2 12 rfl rfl)
theorem dX3_goesOrders_60 : decode cX3_goesOrders 60 = .ok (.iconst 1, 1) := dk_4 (dk_at dksX3_goesOrders_2 13 rfl rfl)
theorem dX3_goesOrders_61 : decode cX3_goesOrders 61 = .ok (.iadd, 1) := dk_96 (dk_at dksX3_goesOrders_2 14 rfl rfl)
theorem dX3_goesOrders_62 : decode cX3_goesOrders 62 = .ok (.invokevirtual 441, 3) := dk_182 1 185 (dk_at dksX3_goesOrders_2 15 rfl rfl)
theorem dX3_goesOrders_65 : decode cX3_goesOrders 65 = .ok (.iinc 4 1, 3) := dk_132 4 1 (dk_at dksX3_goesOrders_2 18 rfl rfl)
theorem dX3_goesOrders_68 : decode cX3_goesOrders 68 = .ok (.goto (-51), 3) := dk_167 255 205 (dk_at dksX3_goesOrders_2 21 rfl rfl)
theorem dX3_goesOrders_71 : decode cX3_goesOrders 71 = .ok (.return_, 1) := dk_177 (dk_at dksX3_goesOrders_3 0 rfl rfl)
abbrev cX3_times : ByteArray := prog_34_method_79_code
def yX3_times : MethodName := ⟨RX3, "times", "(I)I"⟩
def dkwX3_times_2 : List UInt8 := [182, 1, 179, 132, 2, 1, 167, 255, 237, 42, 27, 182, 1, 182, 172]
abbrev dktX3_times_2 : List UInt8 := dkwX3_times_2 ++ []
def dkwX3_times_1 : List UInt8 := [42, 182, 1, 132, 42, 2, 181, 1, 168, 4, 61, 28, 16, 10, 162, 0, 19, 42, 28, 181, 1, 27, 42, 28]
abbrev dktX3_times_1 : List UInt8 := dkwX3_times_1 ++ dktX3_times_2
def dkwX3_times_0 : List UInt8 := [27, 133, 9, 20, 1, 177, 184, 0, 162, 154, 0, 5, 2, 172, 42, 182, 1, 138, 154, 0, 6, 16, 251, 172]
abbrev dktX3_times_0 : List UInt8 := dkwX3_times_0 ++ dktX3_times_1
theorem dksX3_times_0 : cX3_times.data.toList.drop 0 = dktX3_times_0 := by decide +kernel
theorem dksX3_times_1 : cX3_times.data.toList.drop 24 = dktX3_times_1 := dk_seg dksX3_times_0 24 rfl rfl
theorem dksX3_times_2 : cX3_times.data.toList.drop 48 = dktX3_times_2 := dk_seg dksX3_times_1 24 rfl rfl
theorem dX3_times_0 : decode cX3_times 0 = .ok (.iload_n 1, 1) := dk_27 (dk_at dksX3_times_0 0 rfl rfl)
theorem dX3_times_1 : decode cX3_times 1 = .ok (.i2l, 1) := dk_133 (dk_at dksX3_times_0 1 rfl rfl)
theorem dX3_times_2 : decode cX3_times 2 = .ok (.lconst 0, 1) := dk_9 (dk_at dksX3_times_0 2 rfl rfl)
theorem dX3_times_3 : decode cX3_times 3 = .ok (.ldc2_w 433, 3) := dk_20 1 177 (dk_at dksX3_times_0 3 rfl rfl)
theorem dX3_times_6 : decode cX3_times 6 = .ok (.invokestatic 162, 3) := dk_184 0 162 (dk_at dksX3_times_0 6 rfl rfl)
theorem dX3_times_9 : decode cX3_times 9 = .ok (.ifCond .ne 5, 3) := dk_154 0 5 (dk_at dksX3_times_0 9 rfl rfl)
theorem dX3_times_12 : decode cX3_times 12 = .ok (.iconst (-1), 1) := dk_2 (dk_at dksX3_times_0 12 rfl rfl)
theorem dX3_times_13 : decode cX3_times 13 = .ok (.ireturn, 1) := dk_172 (dk_at dksX3_times_0 13 rfl rfl)
theorem dX3_times_14 : decode cX3_times 14 = .ok (.aload_n 0, 1) := dk_42 (dk_at dksX3_times_0 14 rfl rfl)
theorem dX3_times_15 : decode cX3_times 15 = .ok (.invokevirtual 394, 3) := dk_182 1 138 (dk_at dksX3_times_0 15 rfl rfl)
theorem dX3_times_18 : decode cX3_times 18 = .ok (.ifCond .ne 6, 3) := dk_154 0 6 (dk_at dksX3_times_0 18 rfl rfl)
theorem dX3_times_21 : decode cX3_times 21 = .ok (.bipush (-5), 2) := dk_16 251 (dk_at dksX3_times_0 21 rfl rfl)
theorem dX3_times_23 : decode cX3_times 23 = .ok (.ireturn, 1) := dk_172 (dk_at dksX3_times_0 23 rfl rfl)
theorem dX3_times_24 : decode cX3_times 24 = .ok (.aload_n 0, 1) := dk_42 (dk_at dksX3_times_1 0 rfl rfl)
theorem dX3_times_25 : decode cX3_times 25 = .ok (.invokevirtual 388, 3) := dk_182 1 132 (dk_at dksX3_times_1 1 rfl rfl)
theorem dX3_times_28 : decode cX3_times 28 = .ok (.aload_n 0, 1) := dk_42 (dk_at dksX3_times_1 4 rfl rfl)
theorem dX3_times_29 : decode cX3_times 29 = .ok (.iconst (-1), 1) := dk_2 (dk_at dksX3_times_1 5 rfl rfl)
theorem dX3_times_30 : decode cX3_times 30 = .ok (.putfield 424, 3) := dk_181 1 168 (dk_at dksX3_times_1 6 rfl rfl)
theorem dX3_times_33 : decode cX3_times 33 = .ok (.iconst 1, 1) := dk_4 (dk_at dksX3_times_1 9 rfl rfl)
theorem dX3_times_34 : decode cX3_times 34 = .ok (.istore_n 2, 1) := dk_61 (dk_at dksX3_times_1 10 rfl rfl)
theorem dX3_times_35 : decode cX3_times 35 = .ok (.iload_n 2, 1) := dk_28 (dk_at dksX3_times_1 11 rfl rfl)
theorem dX3_times_36 : decode cX3_times 36 = .ok (.bipush 10, 2) := dk_16 10 (dk_at dksX3_times_1 12 rfl rfl)
theorem dX3_times_38 : decode cX3_times 38 = .ok (.if_icmp .ge 19, 3) := dk_162 0 19 (dk_at dksX3_times_1 14 rfl rfl)
theorem dX3_times_41 : decode cX3_times 41 = .ok (.aload_n 0, 1) := dk_42 (dk_at dksX3_times_1 17 rfl rfl)
theorem dX3_times_42 : decode cX3_times 42 = .ok (.iload_n 2, 1) := dk_28 (dk_at dksX3_times_1 18 rfl rfl)
theorem dX3_times_43 : decode cX3_times 43 = .ok (.putfield 283, 3) := dk_181 1 27 (dk_at dksX3_times_1 19 rfl rfl)
theorem dX3_times_46 : decode cX3_times 46 = .ok (.aload_n 0, 1) := dk_42 (dk_at dksX3_times_1 22 rfl rfl)
theorem dX3_times_47 : decode cX3_times 47 = .ok (.iload_n 2, 1) := dk_28 (dk_at dksX3_times_1 23 rfl rfl)
theorem dX3_times_48 : decode cX3_times 48 = .ok (.invokevirtual 435, 3) := dk_182 1 179 (dk_at dksX3_times_2 0 rfl rfl)
theorem dX3_times_51 : decode cX3_times 51 = .ok (.iinc 2 1, 3) := dk_132 2 1 (dk_at dksX3_times_2 3 rfl rfl)
theorem dX3_times_54 : decode cX3_times 54 = .ok (.goto (-19), 3) := dk_167 255 237 (dk_at dksX3_times_2 6 rfl rfl)
theorem dX3_times_57 : decode cX3_times 57 = .ok (.aload_n 0, 1) := dk_42 (dk_at dksX3_times_2 9 rfl rfl)
theorem dX3_times_58 : decode cX3_times 58 = .ok (.iload_n 1, 1) := dk_27 (dk_at dksX3_times_2 10 rfl rfl)
theorem dX3_times_59 : decode cX3_times 59 = .ok (.invokevirtual 438, 3) := dk_182 1 182 (dk_at dksX3_times_2 11 rfl rfl)
theorem dX3_times_62 : decode cX3_times 62 = .ok (.ireturn, 1) := dk_172 (dk_at dksX3_times_2 14 rfl rfl)
abbrev cX3_film : ByteArray := prog_34_method_80_code
def yX3_film : MethodName := ⟨RX3, "film", "(I)I"⟩
def dkwX3_film_7 : List UInt8 := [167, 255, 147, 28, 172]
abbrev dktX3_film_7 : List UInt8 := dkwX3_film_7 ++ []
def dkwX3_film_6 : List UInt8 := [132, 5, 1, 167, 255, 206, 28, 21, 4, 153, 0, 9, 4, 29, 120, 167, 0, 4, 3, 128, 61, 132, 3, 1]
abbrev dktX3_film_6 : List UInt8 := dkwX3_film_6 ++ dktX3_film_7
def dkwX3_film_5 : List UInt8 := [180, 0, 136, 16, 60, 27, 104, 21, 5, 96, 47, 148, 154, 0, 7, 4, 167, 0, 4, 3, 54, 4]
abbrev dktX3_film_5 : List UInt8 := dkwX3_film_5 ++ dktX3_film_6
def dkwX3_film_4 : List UInt8 := [42, 180, 0, 133, 27, 46, 162, 0, 45, 21, 4, 153, 0, 40, 42, 180, 0, 64, 21, 5, 46, 133, 42]
abbrev dktX3_film_4 : List UInt8 := dkwX3_film_4 ++ dktX3_film_5
def dkwX3_film_3 : List UInt8 := [180, 1, 65, 42, 180, 0, 133, 27, 46, 161, 0, 7, 4, 167, 0, 4, 3, 54, 4, 3, 54, 5, 21, 5]
abbrev dktX3_film_3 : List UInt8 := dkwX3_film_3 ++ dktX3_film_4
def dkwX3_film_2 : List UInt8 := [182, 1, 132, 3, 61, 3, 62, 29, 16, 6, 162, 0, 109, 42, 29, 181, 1, 24, 42, 182, 1, 142, 42]
abbrev dktX3_film_2 : List UInt8 := dkwX3_film_2 ++ dktX3_film_3
def dkwX3_film_1 : List UInt8 := [180, 0, 130, 27, 46, 16, 50, 159, 0, 6, 16, 244, 172, 42, 182, 1, 138, 154, 0, 6, 16, 251, 172, 42]
abbrev dktX3_film_1 : List UInt8 := dkwX3_film_1 ++ dktX3_film_2
def dkwX3_film_0 : List UInt8 := [27, 184, 0, 198, 154, 0, 5, 2, 172, 42, 180, 0, 130, 27, 46, 156, 0, 6, 16, 245, 172, 42]
abbrev dktX3_film_0 : List UInt8 := dkwX3_film_0 ++ dktX3_film_1
theorem dksX3_film_0 : cX3_film.data.toList.drop 0 = dktX3_film_0 := by decide +kernel
theorem dksX3_film_1 : cX3_film.data.toList.drop 22 = dktX3_film_1 := dk_seg dksX3_film_0 22 rfl rfl
theorem dksX3_film_2 : cX3_film.data.toList.drop 46 = dktX3_film_2 := dk_seg dksX3_film_1 24 rfl rfl
theorem dksX3_film_3 : cX3_film.data.toList.drop 69 = dktX3_film_3 := dk_seg dksX3_film_2 23 rfl rfl
theorem dksX3_film_4 : cX3_film.data.toList.drop 93 = dktX3_film_4 := dk_seg dksX3_film_3 24 rfl rfl
theorem dksX3_film_5 : cX3_film.data.toList.drop 116 = dktX3_film_5 := dk_seg dksX3_film_4 23 rfl rfl
theorem dksX3_film_6 : cX3_film.data.toList.drop 138 = dktX3_film_6 := dk_seg dksX3_film_5 22 rfl rfl
theorem dksX3_film_7 : cX3_film.data.toList.drop 162 = dktX3_film_7 := dk_seg dksX3_film_6 24 rfl rfl
theorem dX3_film_0 : decode cX3_film 0 = .ok (.iload_n 1, 1) := dk_27 (dk_at dksX3_film_0 0 rfl rfl)
theorem dX3_film_1 : decode cX3_film 1 = .ok (.invokestatic 198, 3) := dk_184 0 198 (dk_at dksX3_film_0 1 rfl rfl)
theorem dX3_film_4 : decode cX3_film 4 = .ok (.ifCond .ne 5, 3) := dk_154 0 5 (dk_at dksX3_film_0 4 rfl rfl)
theorem dX3_film_7 : decode cX3_film 7 = .ok (.iconst (-1), 1) := dk_2 (dk_at dksX3_film_0 7 rfl rfl)
theorem dX3_film_8 : decode cX3_film 8 = .ok (.ireturn, 1) := dk_172 (dk_at dksX3_film_0 8 rfl rfl)
theorem dX3_film_9 : decode cX3_film 9 = .ok (.aload_n 0, 1) := dk_42 (dk_at dksX3_film_0 9 rfl rfl)
theorem dX3_film_10 : decode cX3_film 10 = .ok (.getfield 130, 3) := dk_180 0 130 (dk_at dksX3_film_0 10 rfl rfl)
theorem dX3_film_13 : decode cX3_film 13 = .ok (.iload_n 1, 1) := dk_27 (dk_at dksX3_film_0 13 rfl rfl)
theorem dX3_film_14 : decode cX3_film 14 = .ok (.iaload, 1) := dk_46 (dk_at dksX3_film_0 14 rfl rfl)
theorem dX3_film_15 : decode cX3_film 15 = .ok (.ifCond .ge 6, 3) := dk_156 0 6 (dk_at dksX3_film_0 15 rfl rfl)
theorem dX3_film_18 : decode cX3_film 18 = .ok (.bipush (-11), 2) := dk_16 245 (dk_at dksX3_film_0 18 rfl rfl)
theorem dX3_film_20 : decode cX3_film 20 = .ok (.ireturn, 1) := dk_172 (dk_at dksX3_film_0 20 rfl rfl)
theorem dX3_film_21 : decode cX3_film 21 = .ok (.aload_n 0, 1) := dk_42 (dk_at dksX3_film_0 21 rfl rfl)
theorem dX3_film_22 : decode cX3_film 22 = .ok (.getfield 130, 3) := dk_180 0 130 (dk_at dksX3_film_1 0 rfl rfl)
theorem dX3_film_25 : decode cX3_film 25 = .ok (.iload_n 1, 1) := dk_27 (dk_at dksX3_film_1 3 rfl rfl)
theorem dX3_film_26 : decode cX3_film 26 = .ok (.iaload, 1) := dk_46 (dk_at dksX3_film_1 4 rfl rfl)
theorem dX3_film_27 : decode cX3_film 27 = .ok (.bipush 50, 2) := dk_16 50 (dk_at dksX3_film_1 5 rfl rfl)
theorem dX3_film_29 : decode cX3_film 29 = .ok (.if_icmp .eq 6, 3) := dk_159 0 6 (dk_at dksX3_film_1 7 rfl rfl)
theorem dX3_film_32 : decode cX3_film 32 = .ok (.bipush (-12), 2) := dk_16 244 (dk_at dksX3_film_1 10 rfl rfl)
theorem dX3_film_34 : decode cX3_film 34 = .ok (.ireturn, 1) := dk_172 (dk_at dksX3_film_1 12 rfl rfl)
theorem dX3_film_35 : decode cX3_film 35 = .ok (.aload_n 0, 1) := dk_42 (dk_at dksX3_film_1 13 rfl rfl)
theorem dX3_film_36 : decode cX3_film 36 = .ok (.invokevirtual 394, 3) := dk_182 1 138 (dk_at dksX3_film_1 14 rfl rfl)
theorem dX3_film_39 : decode cX3_film 39 = .ok (.ifCond .ne 6, 3) := dk_154 0 6 (dk_at dksX3_film_1 17 rfl rfl)
theorem dX3_film_42 : decode cX3_film 42 = .ok (.bipush (-5), 2) := dk_16 251 (dk_at dksX3_film_1 20 rfl rfl)
theorem dX3_film_44 : decode cX3_film 44 = .ok (.ireturn, 1) := dk_172 (dk_at dksX3_film_1 22 rfl rfl)
theorem dX3_film_45 : decode cX3_film 45 = .ok (.aload_n 0, 1) := dk_42 (dk_at dksX3_film_1 23 rfl rfl)
theorem dX3_film_46 : decode cX3_film 46 = .ok (.invokevirtual 388, 3) := dk_182 1 132 (dk_at dksX3_film_2 0 rfl rfl)
theorem dX3_film_49 : decode cX3_film 49 = .ok (.iconst 0, 1) := dk_3 (dk_at dksX3_film_2 3 rfl rfl)
theorem dX3_film_50 : decode cX3_film 50 = .ok (.istore_n 2, 1) := dk_61 (dk_at dksX3_film_2 4 rfl rfl)
theorem dX3_film_51 : decode cX3_film 51 = .ok (.iconst 0, 1) := dk_3 (dk_at dksX3_film_2 5 rfl rfl)
theorem dX3_film_52 : decode cX3_film 52 = .ok (.istore_n 3, 1) := dk_62 (dk_at dksX3_film_2 6 rfl rfl)
theorem dX3_film_53 : decode cX3_film 53 = .ok (.iload_n 3, 1) := dk_29 (dk_at dksX3_film_2 7 rfl rfl)
theorem dX3_film_54 : decode cX3_film 54 = .ok (.bipush 6, 2) := dk_16 6 (dk_at dksX3_film_2 8 rfl rfl)
theorem dX3_film_56 : decode cX3_film 56 = .ok (.if_icmp .ge 109, 3) := dk_162 0 109 (dk_at dksX3_film_2 10 rfl rfl)
theorem dX3_film_59 : decode cX3_film 59 = .ok (.aload_n 0, 1) := dk_42 (dk_at dksX3_film_2 13 rfl rfl)
theorem dX3_film_60 : decode cX3_film 60 = .ok (.iload_n 3, 1) := dk_29 (dk_at dksX3_film_2 14 rfl rfl)
theorem dX3_film_61 : decode cX3_film 61 = .ok (.putfield 280, 3) := dk_181 1 24 (dk_at dksX3_film_2 15 rfl rfl)
theorem dX3_film_64 : decode cX3_film 64 = .ok (.aload_n 0, 1) := dk_42 (dk_at dksX3_film_2 18 rfl rfl)
theorem dX3_film_65 : decode cX3_film 65 = .ok (.invokevirtual 398, 3) := dk_182 1 142 (dk_at dksX3_film_2 19 rfl rfl)
theorem dX3_film_68 : decode cX3_film 68 = .ok (.aload_n 0, 1) := dk_42 (dk_at dksX3_film_2 22 rfl rfl)
theorem dX3_film_69 : decode cX3_film 69 = .ok (.getfield 321, 3) := dk_180 1 65 (dk_at dksX3_film_3 0 rfl rfl)
theorem dX3_film_72 : decode cX3_film 72 = .ok (.aload_n 0, 1) := dk_42 (dk_at dksX3_film_3 3 rfl rfl)
theorem dX3_film_73 : decode cX3_film 73 = .ok (.getfield 133, 3) := dk_180 0 133 (dk_at dksX3_film_3 4 rfl rfl)
theorem dX3_film_76 : decode cX3_film 76 = .ok (.iload_n 1, 1) := dk_27 (dk_at dksX3_film_3 7 rfl rfl)
theorem dX3_film_77 : decode cX3_film 77 = .ok (.iaload, 1) := dk_46 (dk_at dksX3_film_3 8 rfl rfl)
theorem dX3_film_78 : decode cX3_film 78 = .ok (.if_icmp .lt 7, 3) := dk_161 0 7 (dk_at dksX3_film_3 9 rfl rfl)
theorem dX3_film_81 : decode cX3_film 81 = .ok (.iconst 1, 1) := dk_4 (dk_at dksX3_film_3 12 rfl rfl)
theorem dX3_film_82 : decode cX3_film 82 = .ok (.goto 4, 3) := dk_167 0 4 (dk_at dksX3_film_3 13 rfl rfl)
theorem dX3_film_85 : decode cX3_film 85 = .ok (.iconst 0, 1) := dk_3 (dk_at dksX3_film_3 16 rfl rfl)
theorem dX3_film_86 : decode cX3_film 86 = .ok (.istore 4, 2) := dk_54 4 (dk_at dksX3_film_3 17 rfl rfl)
theorem dX3_film_88 : decode cX3_film 88 = .ok (.iconst 0, 1) := dk_3 (dk_at dksX3_film_3 19 rfl rfl)
theorem dX3_film_89 : decode cX3_film 89 = .ok (.istore 5, 2) := dk_54 5 (dk_at dksX3_film_3 20 rfl rfl)
theorem dX3_film_91 : decode cX3_film 91 = .ok (.iload 5, 2) := dk_21 5 (dk_at dksX3_film_3 22 rfl rfl)
theorem dX3_film_93 : decode cX3_film 93 = .ok (.aload_n 0, 1) := dk_42 (dk_at dksX3_film_4 0 rfl rfl)
theorem dX3_film_94 : decode cX3_film 94 = .ok (.getfield 133, 3) := dk_180 0 133 (dk_at dksX3_film_4 1 rfl rfl)
theorem dX3_film_97 : decode cX3_film 97 = .ok (.iload_n 1, 1) := dk_27 (dk_at dksX3_film_4 4 rfl rfl)
theorem dX3_film_98 : decode cX3_film 98 = .ok (.iaload, 1) := dk_46 (dk_at dksX3_film_4 5 rfl rfl)
theorem dX3_film_99 : decode cX3_film 99 = .ok (.if_icmp .ge 45, 3) := dk_162 0 45 (dk_at dksX3_film_4 6 rfl rfl)
theorem dX3_film_102 : decode cX3_film 102 = .ok (.iload 4, 2) := dk_21 4 (dk_at dksX3_film_4 9 rfl rfl)
theorem dX3_film_104 : decode cX3_film 104 = .ok (.ifCond .eq 40, 3) := dk_153 0 40 (dk_at dksX3_film_4 11 rfl rfl)
theorem dX3_film_107 : decode cX3_film 107 = .ok (.aload_n 0, 1) := dk_42 (dk_at dksX3_film_4 14 rfl rfl)
theorem dX3_film_108 : decode cX3_film 108 = .ok (.getfield 64, 3) := dk_180 0 64 (dk_at dksX3_film_4 15 rfl rfl)
theorem dX3_film_111 : decode cX3_film 111 = .ok (.iload 5, 2) := dk_21 5 (dk_at dksX3_film_4 18 rfl rfl)
theorem dX3_film_113 : decode cX3_film 113 = .ok (.iaload, 1) := dk_46 (dk_at dksX3_film_4 20 rfl rfl)
theorem dX3_film_114 : decode cX3_film 114 = .ok (.i2l, 1) := dk_133 (dk_at dksX3_film_4 21 rfl rfl)
theorem dX3_film_115 : decode cX3_film 115 = .ok (.aload_n 0, 1) := dk_42 (dk_at dksX3_film_4 22 rfl rfl)
theorem dX3_film_116 : decode cX3_film 116 = .ok (.getfield 136, 3) := dk_180 0 136 (dk_at dksX3_film_5 0 rfl rfl)
theorem dX3_film_119 : decode cX3_film 119 = .ok (.bipush 60, 2) := dk_16 60 (dk_at dksX3_film_5 3 rfl rfl)
theorem dX3_film_121 : decode cX3_film 121 = .ok (.iload_n 1, 1) := dk_27 (dk_at dksX3_film_5 5 rfl rfl)
theorem dX3_film_122 : decode cX3_film 122 = .ok (.imul, 1) := dk_104 (dk_at dksX3_film_5 6 rfl rfl)
theorem dX3_film_123 : decode cX3_film 123 = .ok (.iload 5, 2) := dk_21 5 (dk_at dksX3_film_5 7 rfl rfl)
theorem dX3_film_125 : decode cX3_film 125 = .ok (.iadd, 1) := dk_96 (dk_at dksX3_film_5 9 rfl rfl)
theorem dX3_film_126 : decode cX3_film 126 = .ok (.laload, 1) := dk_47 (dk_at dksX3_film_5 10 rfl rfl)
theorem dX3_film_127 : decode cX3_film 127 = .ok (.lcmp, 1) := dk_148 (dk_at dksX3_film_5 11 rfl rfl)
theorem dX3_film_128 : decode cX3_film 128 = .ok (.ifCond .ne 7, 3) := dk_154 0 7 (dk_at dksX3_film_5 12 rfl rfl)
theorem dX3_film_131 : decode cX3_film 131 = .ok (.iconst 1, 1) := dk_4 (dk_at dksX3_film_5 15 rfl rfl)
theorem dX3_film_132 : decode cX3_film 132 = .ok (.goto 4, 3) := dk_167 0 4 (dk_at dksX3_film_5 16 rfl rfl)
theorem dX3_film_135 : decode cX3_film 135 = .ok (.iconst 0, 1) := dk_3 (dk_at dksX3_film_5 19 rfl rfl)
theorem dX3_film_136 : decode cX3_film 136 = .ok (.istore 4, 2) := dk_54 4 (dk_at dksX3_film_5 20 rfl rfl)
theorem dX3_film_138 : decode cX3_film 138 = .ok (.iinc 5 1, 3) := dk_132 5 1 (dk_at dksX3_film_6 0 rfl rfl)
theorem dX3_film_141 : decode cX3_film 141 = .ok (.goto (-50), 3) := dk_167 255 206 (dk_at dksX3_film_6 3 rfl rfl)
theorem dX3_film_144 : decode cX3_film 144 = .ok (.iload_n 2, 1) := dk_28 (dk_at dksX3_film_6 6 rfl rfl)
theorem dX3_film_145 : decode cX3_film 145 = .ok (.iload 4, 2) := dk_21 4 (dk_at dksX3_film_6 7 rfl rfl)
theorem dX3_film_147 : decode cX3_film 147 = .ok (.ifCond .eq 9, 3) := dk_153 0 9 (dk_at dksX3_film_6 9 rfl rfl)
theorem dX3_film_150 : decode cX3_film 150 = .ok (.iconst 1, 1) := dk_4 (dk_at dksX3_film_6 12 rfl rfl)
theorem dX3_film_151 : decode cX3_film 151 = .ok (.iload_n 3, 1) := dk_29 (dk_at dksX3_film_6 13 rfl rfl)
theorem dX3_film_152 : decode cX3_film 152 = .ok (.ishl, 1) := dk_120 (dk_at dksX3_film_6 14 rfl rfl)
theorem dX3_film_153 : decode cX3_film 153 = .ok (.goto 4, 3) := dk_167 0 4 (dk_at dksX3_film_6 15 rfl rfl)
theorem dX3_film_156 : decode cX3_film 156 = .ok (.iconst 0, 1) := dk_3 (dk_at dksX3_film_6 18 rfl rfl)
theorem dX3_film_157 : decode cX3_film 157 = .ok (.ior, 1) := dk_128 (dk_at dksX3_film_6 19 rfl rfl)
theorem dX3_film_158 : decode cX3_film 158 = .ok (.istore_n 2, 1) := dk_61 (dk_at dksX3_film_6 20 rfl rfl)
theorem dX3_film_159 : decode cX3_film 159 = .ok (.iinc 3 1, 3) := dk_132 3 1 (dk_at dksX3_film_6 21 rfl rfl)
theorem dX3_film_162 : decode cX3_film 162 = .ok (.goto (-109), 3) := dk_167 255 147 (dk_at dksX3_film_7 0 rfl rfl)
theorem dX3_film_165 : decode cX3_film 165 = .ok (.iload_n 2, 1) := dk_28 (dk_at dksX3_film_7 3 rfl rfl)
theorem dX3_film_166 : decode cX3_film 166 = .ok (.ireturn, 1) := dk_172 (dk_at dksX3_film_7 4 rfl rfl)
abbrev cX3_wish : ByteArray := prog_34_method_81_code
def yX3_wish : MethodName := ⟨RX3, "wish", "(II)I"⟩
def dkwX3_wish_3 : List UInt8 := [29, 3, 3, 3, 182, 1, 85, 172]
abbrev dktX3_wish_3 : List UInt8 := dkwX3_wish_3 ++ []
def dkwX3_wish_2 : List UInt8 := [21, 4, 182, 1, 36, 153, 0, 7, 4, 167, 0, 4, 3, 96, 62, 132, 4, 1, 167, 255, 215, 42, 27, 28]
abbrev dktX3_wish_2 : List UInt8 := dkwX3_wish_2 ++ dktX3_wish_3
def dkwX3_wish_1 : List UInt8 := [21, 4, 42, 180, 0, 169, 162, 0, 38, 29, 42, 180, 0, 25, 21, 4, 46, 28, 160, 0, 17, 42, 27]
abbrev dktX3_wish_1 : List UInt8 := dkwX3_wish_1 ++ dktX3_wish_2
def dkwX3_wish_0 : List UInt8 := [42, 27, 182, 0, 211, 153, 0, 11, 42, 28, 182, 0, 219, 154, 0, 6, 18, 218, 172, 3, 62, 3, 54, 4]
abbrev dktX3_wish_0 : List UInt8 := dkwX3_wish_0 ++ dktX3_wish_1
theorem dksX3_wish_0 : cX3_wish.data.toList.drop 0 = dktX3_wish_0 := by decide +kernel
theorem dksX3_wish_1 : cX3_wish.data.toList.drop 24 = dktX3_wish_1 := dk_seg dksX3_wish_0 24 rfl rfl
theorem dksX3_wish_2 : cX3_wish.data.toList.drop 47 = dktX3_wish_2 := dk_seg dksX3_wish_1 23 rfl rfl
theorem dksX3_wish_3 : cX3_wish.data.toList.drop 71 = dktX3_wish_3 := dk_seg dksX3_wish_2 24 rfl rfl
theorem dX3_wish_0 : decode cX3_wish 0 = .ok (.aload_n 0, 1) := dk_42 (dk_at dksX3_wish_0 0 rfl rfl)
theorem dX3_wish_1 : decode cX3_wish 1 = .ok (.iload_n 1, 1) := dk_27 (dk_at dksX3_wish_0 1 rfl rfl)
theorem dX3_wish_2 : decode cX3_wish 2 = .ok (.invokevirtual 211, 3) := dk_182 0 211 (dk_at dksX3_wish_0 2 rfl rfl)
theorem dX3_wish_5 : decode cX3_wish 5 = .ok (.ifCond .eq 11, 3) := dk_153 0 11 (dk_at dksX3_wish_0 5 rfl rfl)
theorem dX3_wish_8 : decode cX3_wish 8 = .ok (.aload_n 0, 1) := dk_42 (dk_at dksX3_wish_0 8 rfl rfl)
theorem dX3_wish_9 : decode cX3_wish 9 = .ok (.iload_n 2, 1) := dk_28 (dk_at dksX3_wish_0 9 rfl rfl)
theorem dX3_wish_10 : decode cX3_wish 10 = .ok (.invokevirtual 219, 3) := dk_182 0 219 (dk_at dksX3_wish_0 10 rfl rfl)
theorem dX3_wish_13 : decode cX3_wish 13 = .ok (.ifCond .ne 6, 3) := dk_154 0 6 (dk_at dksX3_wish_0 13 rfl rfl)
theorem dX3_wish_16 : decode cX3_wish 16 = .ok (.ldc 218, 2) := dk_18 218 (dk_at dksX3_wish_0 16 rfl rfl)
theorem dX3_wish_18 : decode cX3_wish 18 = .ok (.ireturn, 1) := dk_172 (dk_at dksX3_wish_0 18 rfl rfl)
theorem dX3_wish_19 : decode cX3_wish 19 = .ok (.iconst 0, 1) := dk_3 (dk_at dksX3_wish_0 19 rfl rfl)
theorem dX3_wish_20 : decode cX3_wish 20 = .ok (.istore_n 3, 1) := dk_62 (dk_at dksX3_wish_0 20 rfl rfl)
theorem dX3_wish_21 : decode cX3_wish 21 = .ok (.iconst 0, 1) := dk_3 (dk_at dksX3_wish_0 21 rfl rfl)
theorem dX3_wish_22 : decode cX3_wish 22 = .ok (.istore 4, 2) := dk_54 4 (dk_at dksX3_wish_0 22 rfl rfl)
theorem dX3_wish_24 : decode cX3_wish 24 = .ok (.iload 4, 2) := dk_21 4 (dk_at dksX3_wish_1 0 rfl rfl)
theorem dX3_wish_26 : decode cX3_wish 26 = .ok (.aload_n 0, 1) := dk_42 (dk_at dksX3_wish_1 2 rfl rfl)
theorem dX3_wish_27 : decode cX3_wish 27 = .ok (.getfield 169, 3) := dk_180 0 169 (dk_at dksX3_wish_1 3 rfl rfl)
theorem dX3_wish_30 : decode cX3_wish 30 = .ok (.if_icmp .ge 38, 3) := dk_162 0 38 (dk_at dksX3_wish_1 6 rfl rfl)
theorem dX3_wish_33 : decode cX3_wish 33 = .ok (.iload_n 3, 1) := dk_29 (dk_at dksX3_wish_1 9 rfl rfl)
theorem dX3_wish_34 : decode cX3_wish 34 = .ok (.aload_n 0, 1) := dk_42 (dk_at dksX3_wish_1 10 rfl rfl)
theorem dX3_wish_35 : decode cX3_wish 35 = .ok (.getfield 25, 3) := dk_180 0 25 (dk_at dksX3_wish_1 11 rfl rfl)
theorem dX3_wish_38 : decode cX3_wish 38 = .ok (.iload 4, 2) := dk_21 4 (dk_at dksX3_wish_1 14 rfl rfl)
theorem dX3_wish_40 : decode cX3_wish 40 = .ok (.iaload, 1) := dk_46 (dk_at dksX3_wish_1 16 rfl rfl)
theorem dX3_wish_41 : decode cX3_wish 41 = .ok (.iload_n 2, 1) := dk_28 (dk_at dksX3_wish_1 17 rfl rfl)
theorem dX3_wish_42 : decode cX3_wish 42 = .ok (.if_icmp .ne 17, 3) := dk_160 0 17 (dk_at dksX3_wish_1 18 rfl rfl)
theorem dX3_wish_45 : decode cX3_wish 45 = .ok (.aload_n 0, 1) := dk_42 (dk_at dksX3_wish_1 21 rfl rfl)
theorem dX3_wish_46 : decode cX3_wish 46 = .ok (.iload_n 1, 1) := dk_27 (dk_at dksX3_wish_1 22 rfl rfl)
theorem dX3_wish_47 : decode cX3_wish 47 = .ok (.iload 4, 2) := dk_21 4 (dk_at dksX3_wish_2 0 rfl rfl)
theorem dX3_wish_49 : decode cX3_wish 49 = .ok (.invokevirtual 292, 3) := dk_182 1 36 (dk_at dksX3_wish_2 2 rfl rfl)
theorem dX3_wish_52 : decode cX3_wish 52 = .ok (.ifCond .eq 7, 3) := dk_153 0 7 (dk_at dksX3_wish_2 5 rfl rfl)
theorem dX3_wish_55 : decode cX3_wish 55 = .ok (.iconst 1, 1) := dk_4 (dk_at dksX3_wish_2 8 rfl rfl)
theorem dX3_wish_56 : decode cX3_wish 56 = .ok (.goto 4, 3) := dk_167 0 4 (dk_at dksX3_wish_2 9 rfl rfl)
theorem dX3_wish_59 : decode cX3_wish 59 = .ok (.iconst 0, 1) := dk_3 (dk_at dksX3_wish_2 12 rfl rfl)
theorem dX3_wish_60 : decode cX3_wish 60 = .ok (.iadd, 1) := dk_96 (dk_at dksX3_wish_2 13 rfl rfl)
theorem dX3_wish_61 : decode cX3_wish 61 = .ok (.istore_n 3, 1) := dk_62 (dk_at dksX3_wish_2 14 rfl rfl)
theorem dX3_wish_62 : decode cX3_wish 62 = .ok (.iinc 4 1, 3) := dk_132 4 1 (dk_at dksX3_wish_2 15 rfl rfl)
theorem dX3_wish_65 : decode cX3_wish 65 = .ok (.goto (-41), 3) := dk_167 255 215 (dk_at dksX3_wish_2 18 rfl rfl)
theorem dX3_wish_68 : decode cX3_wish 68 = .ok (.aload_n 0, 1) := dk_42 (dk_at dksX3_wish_2 21 rfl rfl)
theorem dX3_wish_69 : decode cX3_wish 69 = .ok (.iload_n 1, 1) := dk_27 (dk_at dksX3_wish_2 22 rfl rfl)
theorem dX3_wish_70 : decode cX3_wish 70 = .ok (.iload_n 2, 1) := dk_28 (dk_at dksX3_wish_2 23 rfl rfl)
theorem dX3_wish_71 : decode cX3_wish 71 = .ok (.iload_n 3, 1) := dk_29 (dk_at dksX3_wish_3 0 rfl rfl)
theorem dX3_wish_72 : decode cX3_wish 72 = .ok (.iconst 0, 1) := dk_3 (dk_at dksX3_wish_3 1 rfl rfl)
theorem dX3_wish_73 : decode cX3_wish 73 = .ok (.iconst 0, 1) := dk_3 (dk_at dksX3_wish_3 2 rfl rfl)
theorem dX3_wish_74 : decode cX3_wish 74 = .ok (.iconst 0, 1) := dk_3 (dk_at dksX3_wish_3 3 rfl rfl)
theorem dX3_wish_75 : decode cX3_wish 75 = .ok (.invokevirtual 341, 3) := dk_182 1 85 (dk_at dksX3_wish_3 4 rfl rfl)
theorem dX3_wish_78 : decode cX3_wish 78 = .ok (.ireturn, 1) := dk_172 (dk_at dksX3_wish_3 7 rfl rfl)
abbrev cX3_body : ByteArray := prog_34_method_84_code
def yX3_body : MethodName := ⟨RX3, "body", "(I)I"⟩
def dkwX3_body_2 : List UInt8 := [180, 1, 188, 4, 100, 172]
abbrev dktX3_body_2 : List UInt8 := dkwX3_body_2 ++ []
def dkwX3_body_1 : List UInt8 := [16, 253, 172, 42, 180, 0, 124, 42, 180, 1, 188, 27, 79, 42, 89, 180, 1, 188, 4, 96, 181, 1, 188, 42]
abbrev dktX3_body_1 : List UInt8 := dkwX3_body_1 ++ dktX3_body_2
def dkwX3_body_0 : List UInt8 := [27, 133, 9, 20, 1, 191, 184, 0, 162, 154, 0, 5, 2, 172, 42, 180, 1, 188, 16, 50, 160, 0, 6]
abbrev dktX3_body_0 : List UInt8 := dkwX3_body_0 ++ dktX3_body_1
theorem dksX3_body_0 : cX3_body.data.toList.drop 0 = dktX3_body_0 := by decide +kernel
theorem dksX3_body_1 : cX3_body.data.toList.drop 23 = dktX3_body_1 := dk_seg dksX3_body_0 23 rfl rfl
theorem dksX3_body_2 : cX3_body.data.toList.drop 47 = dktX3_body_2 := dk_seg dksX3_body_1 24 rfl rfl
theorem dX3_body_0 : decode cX3_body 0 = .ok (.iload_n 1, 1) := dk_27 (dk_at dksX3_body_0 0 rfl rfl)
theorem dX3_body_1 : decode cX3_body 1 = .ok (.i2l, 1) := dk_133 (dk_at dksX3_body_0 1 rfl rfl)
theorem dX3_body_2 : decode cX3_body 2 = .ok (.lconst 0, 1) := dk_9 (dk_at dksX3_body_0 2 rfl rfl)
theorem dX3_body_3 : decode cX3_body 3 = .ok (.ldc2_w 447, 3) := dk_20 1 191 (dk_at dksX3_body_0 3 rfl rfl)
theorem dX3_body_6 : decode cX3_body 6 = .ok (.invokestatic 162, 3) := dk_184 0 162 (dk_at dksX3_body_0 6 rfl rfl)
theorem dX3_body_9 : decode cX3_body 9 = .ok (.ifCond .ne 5, 3) := dk_154 0 5 (dk_at dksX3_body_0 9 rfl rfl)
theorem dX3_body_12 : decode cX3_body 12 = .ok (.iconst (-1), 1) := dk_2 (dk_at dksX3_body_0 12 rfl rfl)
theorem dX3_body_13 : decode cX3_body 13 = .ok (.ireturn, 1) := dk_172 (dk_at dksX3_body_0 13 rfl rfl)
theorem dX3_body_14 : decode cX3_body 14 = .ok (.aload_n 0, 1) := dk_42 (dk_at dksX3_body_0 14 rfl rfl)
theorem dX3_body_15 : decode cX3_body 15 = .ok (.getfield 444, 3) := dk_180 1 188 (dk_at dksX3_body_0 15 rfl rfl)
theorem dX3_body_18 : decode cX3_body 18 = .ok (.bipush 50, 2) := dk_16 50 (dk_at dksX3_body_0 18 rfl rfl)
theorem dX3_body_20 : decode cX3_body 20 = .ok (.if_icmp .ne 6, 3) := dk_160 0 6 (dk_at dksX3_body_0 20 rfl rfl)
theorem dX3_body_23 : decode cX3_body 23 = .ok (.bipush (-3), 2) := dk_16 253 (dk_at dksX3_body_1 0 rfl rfl)
theorem dX3_body_25 : decode cX3_body 25 = .ok (.ireturn, 1) := dk_172 (dk_at dksX3_body_1 2 rfl rfl)
theorem dX3_body_26 : decode cX3_body 26 = .ok (.aload_n 0, 1) := dk_42 (dk_at dksX3_body_1 3 rfl rfl)
theorem dX3_body_27 : decode cX3_body 27 = .ok (.getfield 124, 3) := dk_180 0 124 (dk_at dksX3_body_1 4 rfl rfl)
theorem dX3_body_30 : decode cX3_body 30 = .ok (.aload_n 0, 1) := dk_42 (dk_at dksX3_body_1 7 rfl rfl)
theorem dX3_body_31 : decode cX3_body 31 = .ok (.getfield 444, 3) := dk_180 1 188 (dk_at dksX3_body_1 8 rfl rfl)
theorem dX3_body_34 : decode cX3_body 34 = .ok (.iload_n 1, 1) := dk_27 (dk_at dksX3_body_1 11 rfl rfl)
theorem dX3_body_35 : decode cX3_body 35 = .ok (.iastore, 1) := dk_79 (dk_at dksX3_body_1 12 rfl rfl)
theorem dX3_body_36 : decode cX3_body 36 = .ok (.aload_n 0, 1) := dk_42 (dk_at dksX3_body_1 13 rfl rfl)
theorem dX3_body_37 : decode cX3_body 37 = .ok (.dup, 1) := dk_89 (dk_at dksX3_body_1 14 rfl rfl)
theorem dX3_body_38 : decode cX3_body 38 = .ok (.getfield 444, 3) := dk_180 1 188 (dk_at dksX3_body_1 15 rfl rfl)
theorem dX3_body_41 : decode cX3_body 41 = .ok (.iconst 1, 1) := dk_4 (dk_at dksX3_body_1 18 rfl rfl)
theorem dX3_body_42 : decode cX3_body 42 = .ok (.iadd, 1) := dk_96 (dk_at dksX3_body_1 19 rfl rfl)
theorem dX3_body_43 : decode cX3_body 43 = .ok (.putfield 444, 3) := dk_181 1 188 (dk_at dksX3_body_1 20 rfl rfl)
theorem dX3_body_46 : decode cX3_body 46 = .ok (.aload_n 0, 1) := dk_42 (dk_at dksX3_body_1 23 rfl rfl)
theorem dX3_body_47 : decode cX3_body 47 = .ok (.getfield 444, 3) := dk_180 1 188 (dk_at dksX3_body_2 0 rfl rfl)
theorem dX3_body_50 : decode cX3_body 50 = .ok (.iconst 1, 1) := dk_4 (dk_at dksX3_body_2 3 rfl rfl)
theorem dX3_body_51 : decode cX3_body 51 = .ok (.isub, 1) := dk_100 (dk_at dksX3_body_2 4 rfl rfl)
theorem dX3_body_52 : decode cX3_body 52 = .ok (.ireturn, 1) := dk_172 (dk_at dksX3_body_2 5 rfl rfl)
abbrev cX3_act : ByteArray := prog_34_method_91_code
def yX3_act : MethodName := ⟨RX3, "act", "(III)I"⟩
def dkwX3_act_4 : List UInt8 := [180, 1, 208, 29, 182, 1, 211, 172, 42, 42, 180, 1, 208, 29, 182, 1, 214, 172, 3, 172]
abbrev dktX3_act_4 : List UInt8 := dkwX3_act_4 ++ []
def dkwX3_act_3 : List UInt8 := [42, 42, 180, 1, 208, 29, 182, 1, 199, 172, 42, 42, 180, 1, 208, 29, 182, 1, 205, 172, 42, 42]
abbrev dktX3_act_3 : List UInt8 := dkwX3_act_3 ++ dktX3_act_4
def dkwX3_act_2 : List UInt8 := [170, 0, 0, 0, 69, 0, 0, 0, 0, 0, 0, 0, 3, 0, 0, 0, 29, 0, 0, 0, 39, 0, 0, 0, 49, 0, 0, 0, 59]
abbrev dktX3_act_2 : List UInt8 := dkwX3_act_2 ++ dktX3_act_3
def dkwX3_act_1 : List UInt8 := [181, 1, 208, 42, 27, 181, 1, 202, 28]
abbrev dktX3_act_1 : List UInt8 := dkwX3_act_1 ++ dktX3_act_2
def dkwX3_act_0 : List UInt8 := [42, 3, 181, 1, 193, 42, 27, 182, 1, 217, 154, 0, 5, 3, 172, 42, 42, 180, 0, 124, 27, 46]
abbrev dktX3_act_0 : List UInt8 := dkwX3_act_0 ++ dktX3_act_1
theorem dksX3_act_0 : cX3_act.data.toList.drop 0 = dktX3_act_0 := by decide +kernel
theorem dksX3_act_1 : cX3_act.data.toList.drop 22 = dktX3_act_1 := dk_seg dksX3_act_0 22 rfl rfl
theorem dksX3_act_2 : cX3_act.data.toList.drop 31 = dktX3_act_2 := dk_seg dksX3_act_1 9 rfl rfl
theorem dksX3_act_3 : cX3_act.data.toList.drop 60 = dktX3_act_3 := dk_seg dksX3_act_2 29 rfl rfl
theorem dksX3_act_4 : cX3_act.data.toList.drop 82 = dktX3_act_4 := dk_seg dksX3_act_3 22 rfl rfl
theorem dX3_act_0 : decode cX3_act 0 = .ok (.aload_n 0, 1) := dk_42 (dk_at dksX3_act_0 0 rfl rfl)
theorem dX3_act_1 : decode cX3_act 1 = .ok (.iconst 0, 1) := dk_3 (dk_at dksX3_act_0 1 rfl rfl)
theorem dX3_act_2 : decode cX3_act 2 = .ok (.putfield 449, 3) := dk_181 1 193 (dk_at dksX3_act_0 2 rfl rfl)
theorem dX3_act_5 : decode cX3_act 5 = .ok (.aload_n 0, 1) := dk_42 (dk_at dksX3_act_0 5 rfl rfl)
theorem dX3_act_6 : decode cX3_act 6 = .ok (.iload_n 1, 1) := dk_27 (dk_at dksX3_act_0 6 rfl rfl)
theorem dX3_act_7 : decode cX3_act 7 = .ok (.invokevirtual 473, 3) := dk_182 1 217 (dk_at dksX3_act_0 7 rfl rfl)
theorem dX3_act_10 : decode cX3_act 10 = .ok (.ifCond .ne 5, 3) := dk_154 0 5 (dk_at dksX3_act_0 10 rfl rfl)
theorem dX3_act_13 : decode cX3_act 13 = .ok (.iconst 0, 1) := dk_3 (dk_at dksX3_act_0 13 rfl rfl)
theorem dX3_act_14 : decode cX3_act 14 = .ok (.ireturn, 1) := dk_172 (dk_at dksX3_act_0 14 rfl rfl)
theorem dX3_act_15 : decode cX3_act 15 = .ok (.aload_n 0, 1) := dk_42 (dk_at dksX3_act_0 15 rfl rfl)
theorem dX3_act_16 : decode cX3_act 16 = .ok (.aload_n 0, 1) := dk_42 (dk_at dksX3_act_0 16 rfl rfl)
theorem dX3_act_17 : decode cX3_act 17 = .ok (.getfield 124, 3) := dk_180 0 124 (dk_at dksX3_act_0 17 rfl rfl)
theorem dX3_act_20 : decode cX3_act 20 = .ok (.iload_n 1, 1) := dk_27 (dk_at dksX3_act_0 20 rfl rfl)
theorem dX3_act_21 : decode cX3_act 21 = .ok (.iaload, 1) := dk_46 (dk_at dksX3_act_0 21 rfl rfl)
theorem dX3_act_22 : decode cX3_act 22 = .ok (.putfield 464, 3) := dk_181 1 208 (dk_at dksX3_act_1 0 rfl rfl)
theorem dX3_act_25 : decode cX3_act 25 = .ok (.aload_n 0, 1) := dk_42 (dk_at dksX3_act_1 3 rfl rfl)
theorem dX3_act_26 : decode cX3_act 26 = .ok (.iload_n 1, 1) := dk_27 (dk_at dksX3_act_1 4 rfl rfl)
theorem dX3_act_27 : decode cX3_act 27 = .ok (.putfield 458, 3) := dk_181 1 202 (dk_at dksX3_act_1 5 rfl rfl)
theorem dX3_act_30 : decode cX3_act 30 = .ok (.iload_n 2, 1) := dk_28 (dk_at dksX3_act_1 8 rfl rfl)
theorem dX3_act_31 : decode cX3_act 31 = .ok (.tableswitch 69 0 3 #[29, 39, 49, 59], 29) := by decide +kernel
theorem dX3_act_60 : decode cX3_act 60 = .ok (.aload_n 0, 1) := dk_42 (dk_at dksX3_act_3 0 rfl rfl)
theorem dX3_act_61 : decode cX3_act 61 = .ok (.aload_n 0, 1) := dk_42 (dk_at dksX3_act_3 1 rfl rfl)
theorem dX3_act_62 : decode cX3_act 62 = .ok (.getfield 464, 3) := dk_180 1 208 (dk_at dksX3_act_3 2 rfl rfl)
theorem dX3_act_65 : decode cX3_act 65 = .ok (.iload_n 3, 1) := dk_29 (dk_at dksX3_act_3 5 rfl rfl)
theorem dX3_act_66 : decode cX3_act 66 = .ok (.invokevirtual 455, 3) := dk_182 1 199 (dk_at dksX3_act_3 6 rfl rfl)
theorem dX3_act_69 : decode cX3_act 69 = .ok (.ireturn, 1) := dk_172 (dk_at dksX3_act_3 9 rfl rfl)
theorem dX3_act_70 : decode cX3_act 70 = .ok (.aload_n 0, 1) := dk_42 (dk_at dksX3_act_3 10 rfl rfl)
theorem dX3_act_71 : decode cX3_act 71 = .ok (.aload_n 0, 1) := dk_42 (dk_at dksX3_act_3 11 rfl rfl)
theorem dX3_act_72 : decode cX3_act 72 = .ok (.getfield 464, 3) := dk_180 1 208 (dk_at dksX3_act_3 12 rfl rfl)
theorem dX3_act_75 : decode cX3_act 75 = .ok (.iload_n 3, 1) := dk_29 (dk_at dksX3_act_3 15 rfl rfl)
theorem dX3_act_76 : decode cX3_act 76 = .ok (.invokevirtual 461, 3) := dk_182 1 205 (dk_at dksX3_act_3 16 rfl rfl)
theorem dX3_act_79 : decode cX3_act 79 = .ok (.ireturn, 1) := dk_172 (dk_at dksX3_act_3 19 rfl rfl)
theorem dX3_act_80 : decode cX3_act 80 = .ok (.aload_n 0, 1) := dk_42 (dk_at dksX3_act_3 20 rfl rfl)
theorem dX3_act_81 : decode cX3_act 81 = .ok (.aload_n 0, 1) := dk_42 (dk_at dksX3_act_3 21 rfl rfl)
theorem dX3_act_82 : decode cX3_act 82 = .ok (.getfield 464, 3) := dk_180 1 208 (dk_at dksX3_act_4 0 rfl rfl)
theorem dX3_act_85 : decode cX3_act 85 = .ok (.iload_n 3, 1) := dk_29 (dk_at dksX3_act_4 3 rfl rfl)
theorem dX3_act_86 : decode cX3_act 86 = .ok (.invokevirtual 467, 3) := dk_182 1 211 (dk_at dksX3_act_4 4 rfl rfl)
theorem dX3_act_89 : decode cX3_act 89 = .ok (.ireturn, 1) := dk_172 (dk_at dksX3_act_4 7 rfl rfl)
theorem dX3_act_90 : decode cX3_act 90 = .ok (.aload_n 0, 1) := dk_42 (dk_at dksX3_act_4 8 rfl rfl)
theorem dX3_act_91 : decode cX3_act 91 = .ok (.aload_n 0, 1) := dk_42 (dk_at dksX3_act_4 9 rfl rfl)
theorem dX3_act_92 : decode cX3_act 92 = .ok (.getfield 464, 3) := dk_180 1 208 (dk_at dksX3_act_4 10 rfl rfl)
theorem dX3_act_95 : decode cX3_act 95 = .ok (.iload_n 3, 1) := dk_29 (dk_at dksX3_act_4 13 rfl rfl)
theorem dX3_act_96 : decode cX3_act 96 = .ok (.invokevirtual 470, 3) := dk_182 1 214 (dk_at dksX3_act_4 14 rfl rfl)
theorem dX3_act_99 : decode cX3_act 99 = .ok (.ireturn, 1) := dk_172 (dk_at dksX3_act_4 17 rfl rfl)
theorem dX3_act_100 : decode cX3_act 100 = .ok (.iconst 0, 1) := dk_3 (dk_at dksX3_act_4 18 rfl rfl)
theorem dX3_act_101 : decode cX3_act 101 = .ok (.ireturn, 1) := dk_172 (dk_at dksX3_act_4 19 rfl rfl)
abbrev cX3_isBody : ByteArray := prog_34_method_82_code
def yX3_isBody : MethodName := ⟨RX3, "isBody", "(I)Z"⟩
def dkwX3_isBody_0 : List UInt8 := [27, 133, 9, 42, 180, 1, 188, 4, 100, 133, 184, 0, 162, 172]
abbrev dktX3_isBody_0 : List UInt8 := dkwX3_isBody_0 ++ []
theorem dksX3_isBody_0 : cX3_isBody.data.toList.drop 0 = dktX3_isBody_0 := by decide +kernel
theorem dX3_isBody_0 : decode cX3_isBody 0 = .ok (.iload_n 1, 1) := dk_27 (dk_at dksX3_isBody_0 0 rfl rfl)
theorem dX3_isBody_1 : decode cX3_isBody 1 = .ok (.i2l, 1) := dk_133 (dk_at dksX3_isBody_0 1 rfl rfl)
theorem dX3_isBody_2 : decode cX3_isBody 2 = .ok (.lconst 0, 1) := dk_9 (dk_at dksX3_isBody_0 2 rfl rfl)
theorem dX3_isBody_3 : decode cX3_isBody 3 = .ok (.aload_n 0, 1) := dk_42 (dk_at dksX3_isBody_0 3 rfl rfl)
theorem dX3_isBody_4 : decode cX3_isBody 4 = .ok (.getfield 444, 3) := dk_180 1 188 (dk_at dksX3_isBody_0 4 rfl rfl)
theorem dX3_isBody_7 : decode cX3_isBody 7 = .ok (.iconst 1, 1) := dk_4 (dk_at dksX3_isBody_0 7 rfl rfl)
theorem dX3_isBody_8 : decode cX3_isBody 8 = .ok (.isub, 1) := dk_100 (dk_at dksX3_isBody_0 8 rfl rfl)
theorem dX3_isBody_9 : decode cX3_isBody 9 = .ok (.i2l, 1) := dk_133 (dk_at dksX3_isBody_0 9 rfl rfl)
theorem dX3_isBody_10 : decode cX3_isBody 10 = .ok (.invokestatic 162, 3) := dk_184 0 162 (dk_at dksX3_isBody_0 10 rfl rfl)
theorem dX3_isBody_13 : decode cX3_isBody 13 = .ok (.ireturn, 1) := dk_172 (dk_at dksX3_isBody_0 13 rfl rfl)
abbrev cX3_knowsAs : ByteArray := prog_34_method_87_code
def yX3_knowsAs : MethodName := ⟨RX3, "knowsAs", "(II)I"⟩
def dkwX3_knowsAs_2 : List UInt8 := [42, 180, 1, 202, 96, 172]
abbrev dktX3_knowsAs_2 : List UInt8 := dkwX3_knowsAs_2 ++ []
def dkwX3_knowsAs_1 : List UInt8 := [160, 0, 18, 42, 16, 70, 182, 1, 196, 42, 3, 28, 182, 1, 199, 5, 104, 172, 42, 4, 182, 1, 196, 28]
abbrev dktX3_knowsAs_1 : List UInt8 := dkwX3_knowsAs_1 ++ dktX3_knowsAs_2
def dkwX3_knowsAs_0 : List UInt8 := [27, 4, 160, 0, 18, 42, 16, 20, 182, 1, 196, 42, 3, 28, 182, 1, 199, 6, 96, 172, 27, 16, 6]
abbrev dktX3_knowsAs_0 : List UInt8 := dkwX3_knowsAs_0 ++ dktX3_knowsAs_1
theorem dksX3_knowsAs_0 : cX3_knowsAs.data.toList.drop 0 = dktX3_knowsAs_0 := by decide +kernel
theorem dksX3_knowsAs_1 : cX3_knowsAs.data.toList.drop 23 = dktX3_knowsAs_1 := dk_seg dksX3_knowsAs_0 23 rfl rfl
theorem dksX3_knowsAs_2 : cX3_knowsAs.data.toList.drop 47 = dktX3_knowsAs_2 := dk_seg dksX3_knowsAs_1 24 rfl rfl
theorem dX3_knowsAs_0 : decode cX3_knowsAs 0 = .ok (.iload_n 1, 1) := dk_27 (dk_at dksX3_knowsAs_0 0 rfl rfl)
theorem dX3_knowsAs_1 : decode cX3_knowsAs 1 = .ok (.iconst 1, 1) := dk_4 (dk_at dksX3_knowsAs_0 1 rfl rfl)
theorem dX3_knowsAs_2 : decode cX3_knowsAs 2 = .ok (.if_icmp .ne 18, 3) := dk_160 0 18 (dk_at dksX3_knowsAs_0 2 rfl rfl)
theorem dX3_knowsAs_5 : decode cX3_knowsAs 5 = .ok (.aload_n 0, 1) := dk_42 (dk_at dksX3_knowsAs_0 5 rfl rfl)
theorem dX3_knowsAs_6 : decode cX3_knowsAs 6 = .ok (.bipush 20, 2) := dk_16 20 (dk_at dksX3_knowsAs_0 6 rfl rfl)
theorem dX3_knowsAs_8 : decode cX3_knowsAs 8 = .ok (.invokevirtual 452, 3) := dk_182 1 196 (dk_at dksX3_knowsAs_0 8 rfl rfl)
theorem dX3_knowsAs_11 : decode cX3_knowsAs 11 = .ok (.aload_n 0, 1) := dk_42 (dk_at dksX3_knowsAs_0 11 rfl rfl)
theorem dX3_knowsAs_12 : decode cX3_knowsAs 12 = .ok (.iconst 0, 1) := dk_3 (dk_at dksX3_knowsAs_0 12 rfl rfl)
theorem dX3_knowsAs_13 : decode cX3_knowsAs 13 = .ok (.iload_n 2, 1) := dk_28 (dk_at dksX3_knowsAs_0 13 rfl rfl)
theorem dX3_knowsAs_14 : decode cX3_knowsAs 14 = .ok (.invokevirtual 455, 3) := dk_182 1 199 (dk_at dksX3_knowsAs_0 14 rfl rfl)
theorem dX3_knowsAs_17 : decode cX3_knowsAs 17 = .ok (.iconst 3, 1) := dk_6 (dk_at dksX3_knowsAs_0 17 rfl rfl)
theorem dX3_knowsAs_18 : decode cX3_knowsAs 18 = .ok (.iadd, 1) := dk_96 (dk_at dksX3_knowsAs_0 18 rfl rfl)
theorem dX3_knowsAs_19 : decode cX3_knowsAs 19 = .ok (.ireturn, 1) := dk_172 (dk_at dksX3_knowsAs_0 19 rfl rfl)
theorem dX3_knowsAs_20 : decode cX3_knowsAs 20 = .ok (.iload_n 1, 1) := dk_27 (dk_at dksX3_knowsAs_0 20 rfl rfl)
theorem dX3_knowsAs_21 : decode cX3_knowsAs 21 = .ok (.bipush 6, 2) := dk_16 6 (dk_at dksX3_knowsAs_0 21 rfl rfl)
theorem dX3_knowsAs_23 : decode cX3_knowsAs 23 = .ok (.if_icmp .ne 18, 3) := dk_160 0 18 (dk_at dksX3_knowsAs_1 0 rfl rfl)
theorem dX3_knowsAs_26 : decode cX3_knowsAs 26 = .ok (.aload_n 0, 1) := dk_42 (dk_at dksX3_knowsAs_1 3 rfl rfl)
theorem dX3_knowsAs_27 : decode cX3_knowsAs 27 = .ok (.bipush 70, 2) := dk_16 70 (dk_at dksX3_knowsAs_1 4 rfl rfl)
theorem dX3_knowsAs_29 : decode cX3_knowsAs 29 = .ok (.invokevirtual 452, 3) := dk_182 1 196 (dk_at dksX3_knowsAs_1 6 rfl rfl)
theorem dX3_knowsAs_32 : decode cX3_knowsAs 32 = .ok (.aload_n 0, 1) := dk_42 (dk_at dksX3_knowsAs_1 9 rfl rfl)
theorem dX3_knowsAs_33 : decode cX3_knowsAs 33 = .ok (.iconst 0, 1) := dk_3 (dk_at dksX3_knowsAs_1 10 rfl rfl)
theorem dX3_knowsAs_34 : decode cX3_knowsAs 34 = .ok (.iload_n 2, 1) := dk_28 (dk_at dksX3_knowsAs_1 11 rfl rfl)
theorem dX3_knowsAs_35 : decode cX3_knowsAs 35 = .ok (.invokevirtual 455, 3) := dk_182 1 199 (dk_at dksX3_knowsAs_1 12 rfl rfl)
theorem dX3_knowsAs_38 : decode cX3_knowsAs 38 = .ok (.iconst 2, 1) := dk_5 (dk_at dksX3_knowsAs_1 15 rfl rfl)
theorem dX3_knowsAs_39 : decode cX3_knowsAs 39 = .ok (.imul, 1) := dk_104 (dk_at dksX3_knowsAs_1 16 rfl rfl)
theorem dX3_knowsAs_40 : decode cX3_knowsAs 40 = .ok (.ireturn, 1) := dk_172 (dk_at dksX3_knowsAs_1 17 rfl rfl)
theorem dX3_knowsAs_41 : decode cX3_knowsAs 41 = .ok (.aload_n 0, 1) := dk_42 (dk_at dksX3_knowsAs_1 18 rfl rfl)
theorem dX3_knowsAs_42 : decode cX3_knowsAs 42 = .ok (.iconst 1, 1) := dk_4 (dk_at dksX3_knowsAs_1 19 rfl rfl)
theorem dX3_knowsAs_43 : decode cX3_knowsAs 43 = .ok (.invokevirtual 452, 3) := dk_182 1 196 (dk_at dksX3_knowsAs_1 20 rfl rfl)
theorem dX3_knowsAs_46 : decode cX3_knowsAs 46 = .ok (.iload_n 2, 1) := dk_28 (dk_at dksX3_knowsAs_1 23 rfl rfl)
theorem dX3_knowsAs_47 : decode cX3_knowsAs 47 = .ok (.aload_n 0, 1) := dk_42 (dk_at dksX3_knowsAs_2 0 rfl rfl)
theorem dX3_knowsAs_48 : decode cX3_knowsAs 48 = .ok (.getfield 458, 3) := dk_180 1 202 (dk_at dksX3_knowsAs_2 1 rfl rfl)
theorem dX3_knowsAs_51 : decode cX3_knowsAs 51 = .ok (.iadd, 1) := dk_96 (dk_at dksX3_knowsAs_2 4 rfl rfl)
theorem dX3_knowsAs_52 : decode cX3_knowsAs 52 = .ok (.ireturn, 1) := dk_172 (dk_at dksX3_knowsAs_2 5 rfl rfl)
abbrev cX3_begins : ByteArray := prog_34_method_86_code
def yX3_begins : MethodName := ⟨RX3, "begins", "(I)V"⟩
def dkwX3_begins_1 : List UInt8 := [4, 96, 181, 1, 193, 177]
abbrev dktX3_begins_1 : List UInt8 := dkwX3_begins_1 ++ []
def dkwX3_begins_0 : List UInt8 := [42, 180, 1, 193, 16, 24, 162, 0, 13, 42, 180, 0, 127, 42, 180, 1, 193, 27, 79, 42, 89, 180, 1, 193]
abbrev dktX3_begins_0 : List UInt8 := dkwX3_begins_0 ++ dktX3_begins_1
theorem dksX3_begins_0 : cX3_begins.data.toList.drop 0 = dktX3_begins_0 := by decide +kernel
theorem dksX3_begins_1 : cX3_begins.data.toList.drop 24 = dktX3_begins_1 := dk_seg dksX3_begins_0 24 rfl rfl
theorem dX3_begins_0 : decode cX3_begins 0 = .ok (.aload_n 0, 1) := dk_42 (dk_at dksX3_begins_0 0 rfl rfl)
theorem dX3_begins_1 : decode cX3_begins 1 = .ok (.getfield 449, 3) := dk_180 1 193 (dk_at dksX3_begins_0 1 rfl rfl)
theorem dX3_begins_4 : decode cX3_begins 4 = .ok (.bipush 24, 2) := dk_16 24 (dk_at dksX3_begins_0 4 rfl rfl)
theorem dX3_begins_6 : decode cX3_begins 6 = .ok (.if_icmp .ge 13, 3) := dk_162 0 13 (dk_at dksX3_begins_0 6 rfl rfl)
theorem dX3_begins_9 : decode cX3_begins 9 = .ok (.aload_n 0, 1) := dk_42 (dk_at dksX3_begins_0 9 rfl rfl)
theorem dX3_begins_10 : decode cX3_begins 10 = .ok (.getfield 127, 3) := dk_180 0 127 (dk_at dksX3_begins_0 10 rfl rfl)
theorem dX3_begins_13 : decode cX3_begins 13 = .ok (.aload_n 0, 1) := dk_42 (dk_at dksX3_begins_0 13 rfl rfl)
theorem dX3_begins_14 : decode cX3_begins 14 = .ok (.getfield 449, 3) := dk_180 1 193 (dk_at dksX3_begins_0 14 rfl rfl)
theorem dX3_begins_17 : decode cX3_begins 17 = .ok (.iload_n 1, 1) := dk_27 (dk_at dksX3_begins_0 17 rfl rfl)
theorem dX3_begins_18 : decode cX3_begins 18 = .ok (.iastore, 1) := dk_79 (dk_at dksX3_begins_0 18 rfl rfl)
theorem dX3_begins_19 : decode cX3_begins 19 = .ok (.aload_n 0, 1) := dk_42 (dk_at dksX3_begins_0 19 rfl rfl)
theorem dX3_begins_20 : decode cX3_begins 20 = .ok (.dup, 1) := dk_89 (dk_at dksX3_begins_0 20 rfl rfl)
theorem dX3_begins_21 : decode cX3_begins 21 = .ok (.getfield 449, 3) := dk_180 1 193 (dk_at dksX3_begins_0 21 rfl rfl)
theorem dX3_begins_24 : decode cX3_begins 24 = .ok (.iconst 1, 1) := dk_4 (dk_at dksX3_begins_1 0 rfl rfl)
theorem dX3_begins_25 : decode cX3_begins 25 = .ok (.iadd, 1) := dk_96 (dk_at dksX3_begins_1 1 rfl rfl)
theorem dX3_begins_26 : decode cX3_begins 26 = .ok (.putfield 449, 3) := dk_181 1 193 (dk_at dksX3_begins_1 2 rfl rfl)
theorem dX3_begins_29 : decode cX3_begins 29 = .ok (.return_, 1) := dk_177 (dk_at dksX3_begins_1 5 rfl rfl)
abbrev cX3_speaksAs : ByteArray := prog_34_method_88_code
def yX3_speaksAs : MethodName := ⟨RX3, "speaksAs", "(II)I"⟩
def dkwX3_speaksAs_3 : List UInt8 := [182, 1, 211, 96, 172, 42, 16, 10, 182, 1, 196, 42, 42, 180, 1, 208, 28, 182, 1, 199, 5, 104, 172]
abbrev dktX3_speaksAs_3 : List UInt8 := dkwX3_speaksAs_3 ++ []
def dkwX3_speaksAs_2 : List UInt8 := [160, 0, 28, 42, 16, 80, 182, 1, 196, 42, 7, 28, 182, 1, 205, 62, 29, 42, 42, 180, 1, 208, 5]
abbrev dktX3_speaksAs_2 : List UInt8 := dkwX3_speaksAs_2 ++ dktX3_speaksAs_3
def dkwX3_speaksAs_1 : List UInt8 := [172, 27, 5, 160, 0, 17, 42, 16, 30, 182, 1, 196, 42, 3, 28, 182, 1, 205, 116, 172, 27, 16, 7]
abbrev dktX3_speaksAs_1 : List UInt8 := dkwX3_speaksAs_1 ++ dktX3_speaksAs_2
def dkwX3_speaksAs_0 : List UInt8 := [27, 6, 159, 0, 8, 27, 8, 160, 0, 18, 42, 16, 41, 182, 1, 196, 42, 5, 28, 4, 96, 182, 1, 205]
abbrev dktX3_speaksAs_0 : List UInt8 := dkwX3_speaksAs_0 ++ dktX3_speaksAs_1
theorem dksX3_speaksAs_0 : cX3_speaksAs.data.toList.drop 0 = dktX3_speaksAs_0 := by decide +kernel
theorem dksX3_speaksAs_1 : cX3_speaksAs.data.toList.drop 24 = dktX3_speaksAs_1 := dk_seg dksX3_speaksAs_0 24 rfl rfl
theorem dksX3_speaksAs_2 : cX3_speaksAs.data.toList.drop 47 = dktX3_speaksAs_2 := dk_seg dksX3_speaksAs_1 23 rfl rfl
theorem dksX3_speaksAs_3 : cX3_speaksAs.data.toList.drop 70 = dktX3_speaksAs_3 := dk_seg dksX3_speaksAs_2 23 rfl rfl
theorem dX3_speaksAs_0 : decode cX3_speaksAs 0 = .ok (.iload_n 1, 1) := dk_27 (dk_at dksX3_speaksAs_0 0 rfl rfl)
theorem dX3_speaksAs_1 : decode cX3_speaksAs 1 = .ok (.iconst 3, 1) := dk_6 (dk_at dksX3_speaksAs_0 1 rfl rfl)
theorem dX3_speaksAs_2 : decode cX3_speaksAs 2 = .ok (.if_icmp .eq 8, 3) := dk_159 0 8 (dk_at dksX3_speaksAs_0 2 rfl rfl)
theorem dX3_speaksAs_5 : decode cX3_speaksAs 5 = .ok (.iload_n 1, 1) := dk_27 (dk_at dksX3_speaksAs_0 5 rfl rfl)
theorem dX3_speaksAs_6 : decode cX3_speaksAs 6 = .ok (.iconst 5, 1) := dk_8 (dk_at dksX3_speaksAs_0 6 rfl rfl)
theorem dX3_speaksAs_7 : decode cX3_speaksAs 7 = .ok (.if_icmp .ne 18, 3) := dk_160 0 18 (dk_at dksX3_speaksAs_0 7 rfl rfl)
theorem dX3_speaksAs_10 : decode cX3_speaksAs 10 = .ok (.aload_n 0, 1) := dk_42 (dk_at dksX3_speaksAs_0 10 rfl rfl)
theorem dX3_speaksAs_11 : decode cX3_speaksAs 11 = .ok (.bipush 41, 2) := dk_16 41 (dk_at dksX3_speaksAs_0 11 rfl rfl)
theorem dX3_speaksAs_13 : decode cX3_speaksAs 13 = .ok (.invokevirtual 452, 3) := dk_182 1 196 (dk_at dksX3_speaksAs_0 13 rfl rfl)
theorem dX3_speaksAs_16 : decode cX3_speaksAs 16 = .ok (.aload_n 0, 1) := dk_42 (dk_at dksX3_speaksAs_0 16 rfl rfl)
theorem dX3_speaksAs_17 : decode cX3_speaksAs 17 = .ok (.iconst 2, 1) := dk_5 (dk_at dksX3_speaksAs_0 17 rfl rfl)
theorem dX3_speaksAs_18 : decode cX3_speaksAs 18 = .ok (.iload_n 2, 1) := dk_28 (dk_at dksX3_speaksAs_0 18 rfl rfl)
theorem dX3_speaksAs_19 : decode cX3_speaksAs 19 = .ok (.iconst 1, 1) := dk_4 (dk_at dksX3_speaksAs_0 19 rfl rfl)
theorem dX3_speaksAs_20 : decode cX3_speaksAs 20 = .ok (.iadd, 1) := dk_96 (dk_at dksX3_speaksAs_0 20 rfl rfl)
theorem dX3_speaksAs_21 : decode cX3_speaksAs 21 = .ok (.invokevirtual 461, 3) := dk_182 1 205 (dk_at dksX3_speaksAs_0 21 rfl rfl)
theorem dX3_speaksAs_24 : decode cX3_speaksAs 24 = .ok (.ireturn, 1) := dk_172 (dk_at dksX3_speaksAs_1 0 rfl rfl)
theorem dX3_speaksAs_25 : decode cX3_speaksAs 25 = .ok (.iload_n 1, 1) := dk_27 (dk_at dksX3_speaksAs_1 1 rfl rfl)
theorem dX3_speaksAs_26 : decode cX3_speaksAs 26 = .ok (.iconst 2, 1) := dk_5 (dk_at dksX3_speaksAs_1 2 rfl rfl)
theorem dX3_speaksAs_27 : decode cX3_speaksAs 27 = .ok (.if_icmp .ne 17, 3) := dk_160 0 17 (dk_at dksX3_speaksAs_1 3 rfl rfl)
theorem dX3_speaksAs_30 : decode cX3_speaksAs 30 = .ok (.aload_n 0, 1) := dk_42 (dk_at dksX3_speaksAs_1 6 rfl rfl)
theorem dX3_speaksAs_31 : decode cX3_speaksAs 31 = .ok (.bipush 30, 2) := dk_16 30 (dk_at dksX3_speaksAs_1 7 rfl rfl)
theorem dX3_speaksAs_33 : decode cX3_speaksAs 33 = .ok (.invokevirtual 452, 3) := dk_182 1 196 (dk_at dksX3_speaksAs_1 9 rfl rfl)
theorem dX3_speaksAs_36 : decode cX3_speaksAs 36 = .ok (.aload_n 0, 1) := dk_42 (dk_at dksX3_speaksAs_1 12 rfl rfl)
theorem dX3_speaksAs_37 : decode cX3_speaksAs 37 = .ok (.iconst 0, 1) := dk_3 (dk_at dksX3_speaksAs_1 13 rfl rfl)
theorem dX3_speaksAs_38 : decode cX3_speaksAs 38 = .ok (.iload_n 2, 1) := dk_28 (dk_at dksX3_speaksAs_1 14 rfl rfl)
theorem dX3_speaksAs_39 : decode cX3_speaksAs 39 = .ok (.invokevirtual 461, 3) := dk_182 1 205 (dk_at dksX3_speaksAs_1 15 rfl rfl)
theorem dX3_speaksAs_42 : decode cX3_speaksAs 42 = .ok (.ineg, 1) := dk_116 (dk_at dksX3_speaksAs_1 18 rfl rfl)
theorem dX3_speaksAs_43 : decode cX3_speaksAs 43 = .ok (.ireturn, 1) := dk_172 (dk_at dksX3_speaksAs_1 19 rfl rfl)
theorem dX3_speaksAs_44 : decode cX3_speaksAs 44 = .ok (.iload_n 1, 1) := dk_27 (dk_at dksX3_speaksAs_1 20 rfl rfl)
theorem dX3_speaksAs_45 : decode cX3_speaksAs 45 = .ok (.bipush 7, 2) := dk_16 7 (dk_at dksX3_speaksAs_1 21 rfl rfl)
theorem dX3_speaksAs_47 : decode cX3_speaksAs 47 = .ok (.if_icmp .ne 28, 3) := dk_160 0 28 (dk_at dksX3_speaksAs_2 0 rfl rfl)
theorem dX3_speaksAs_50 : decode cX3_speaksAs 50 = .ok (.aload_n 0, 1) := dk_42 (dk_at dksX3_speaksAs_2 3 rfl rfl)
theorem dX3_speaksAs_51 : decode cX3_speaksAs 51 = .ok (.bipush 80, 2) := dk_16 80 (dk_at dksX3_speaksAs_2 4 rfl rfl)
theorem dX3_speaksAs_53 : decode cX3_speaksAs 53 = .ok (.invokevirtual 452, 3) := dk_182 1 196 (dk_at dksX3_speaksAs_2 6 rfl rfl)
theorem dX3_speaksAs_56 : decode cX3_speaksAs 56 = .ok (.aload_n 0, 1) := dk_42 (dk_at dksX3_speaksAs_2 9 rfl rfl)
theorem dX3_speaksAs_57 : decode cX3_speaksAs 57 = .ok (.iconst 4, 1) := dk_7 (dk_at dksX3_speaksAs_2 10 rfl rfl)
theorem dX3_speaksAs_58 : decode cX3_speaksAs 58 = .ok (.iload_n 2, 1) := dk_28 (dk_at dksX3_speaksAs_2 11 rfl rfl)
theorem dX3_speaksAs_59 : decode cX3_speaksAs 59 = .ok (.invokevirtual 461, 3) := dk_182 1 205 (dk_at dksX3_speaksAs_2 12 rfl rfl)
theorem dX3_speaksAs_62 : decode cX3_speaksAs 62 = .ok (.istore_n 3, 1) := dk_62 (dk_at dksX3_speaksAs_2 15 rfl rfl)
theorem dX3_speaksAs_63 : decode cX3_speaksAs 63 = .ok (.iload_n 3, 1) := dk_29 (dk_at dksX3_speaksAs_2 16 rfl rfl)
theorem dX3_speaksAs_64 : decode cX3_speaksAs 64 = .ok (.aload_n 0, 1) := dk_42 (dk_at dksX3_speaksAs_2 17 rfl rfl)
theorem dX3_speaksAs_65 : decode cX3_speaksAs 65 = .ok (.aload_n 0, 1) := dk_42 (dk_at dksX3_speaksAs_2 18 rfl rfl)
theorem dX3_speaksAs_66 : decode cX3_speaksAs 66 = .ok (.getfield 464, 3) := dk_180 1 208 (dk_at dksX3_speaksAs_2 19 rfl rfl)
theorem dX3_speaksAs_69 : decode cX3_speaksAs 69 = .ok (.iconst 2, 1) := dk_5 (dk_at dksX3_speaksAs_2 22 rfl rfl)
theorem dX3_speaksAs_70 : decode cX3_speaksAs 70 = .ok (.invokevirtual 467, 3) := dk_182 1 211 (dk_at dksX3_speaksAs_3 0 rfl rfl)
theorem dX3_speaksAs_73 : decode cX3_speaksAs 73 = .ok (.iadd, 1) := dk_96 (dk_at dksX3_speaksAs_3 3 rfl rfl)
theorem dX3_speaksAs_74 : decode cX3_speaksAs 74 = .ok (.ireturn, 1) := dk_172 (dk_at dksX3_speaksAs_3 4 rfl rfl)
theorem dX3_speaksAs_75 : decode cX3_speaksAs 75 = .ok (.aload_n 0, 1) := dk_42 (dk_at dksX3_speaksAs_3 5 rfl rfl)
theorem dX3_speaksAs_76 : decode cX3_speaksAs 76 = .ok (.bipush 10, 2) := dk_16 10 (dk_at dksX3_speaksAs_3 6 rfl rfl)
theorem dX3_speaksAs_78 : decode cX3_speaksAs 78 = .ok (.invokevirtual 452, 3) := dk_182 1 196 (dk_at dksX3_speaksAs_3 8 rfl rfl)
theorem dX3_speaksAs_81 : decode cX3_speaksAs 81 = .ok (.aload_n 0, 1) := dk_42 (dk_at dksX3_speaksAs_3 11 rfl rfl)
theorem dX3_speaksAs_82 : decode cX3_speaksAs 82 = .ok (.aload_n 0, 1) := dk_42 (dk_at dksX3_speaksAs_3 12 rfl rfl)
theorem dX3_speaksAs_83 : decode cX3_speaksAs 83 = .ok (.getfield 464, 3) := dk_180 1 208 (dk_at dksX3_speaksAs_3 13 rfl rfl)
theorem dX3_speaksAs_86 : decode cX3_speaksAs 86 = .ok (.iload_n 2, 1) := dk_28 (dk_at dksX3_speaksAs_3 16 rfl rfl)
theorem dX3_speaksAs_87 : decode cX3_speaksAs 87 = .ok (.invokevirtual 455, 3) := dk_182 1 199 (dk_at dksX3_speaksAs_3 17 rfl rfl)
theorem dX3_speaksAs_90 : decode cX3_speaksAs 90 = .ok (.iconst 2, 1) := dk_5 (dk_at dksX3_speaksAs_3 20 rfl rfl)
theorem dX3_speaksAs_91 : decode cX3_speaksAs 91 = .ok (.imul, 1) := dk_104 (dk_at dksX3_speaksAs_3 21 rfl rfl)
theorem dX3_speaksAs_92 : decode cX3_speaksAs 92 = .ok (.ireturn, 1) := dk_172 (dk_at dksX3_speaksAs_3 22 rfl rfl)
abbrev cX3_stopsAs : ByteArray := prog_34_method_89_code
def yX3_stopsAs : MethodName := ⟨RX3, "stopsAs", "(II)I"⟩
def dkwX3_stopsAs_3 : List UInt8 := [130, 172]
abbrev dktX3_stopsAs_3 : List UInt8 := dkwX3_stopsAs_3 ++ []
def dkwX3_stopsAs_2 : List UInt8 := [62, 29, 42, 42, 180, 1, 208, 5, 182, 1, 199, 100, 172, 42, 16, 11, 182, 1, 196, 28, 42, 180, 1, 202]
abbrev dktX3_stopsAs_2 : List UInt8 := dkwX3_stopsAs_2 ++ dktX3_stopsAs_3
def dkwX3_stopsAs_1 : List UInt8 := [172, 27, 7, 159, 0, 9, 27, 16, 7, 160, 0, 28, 42, 16, 50, 182, 1, 196, 42, 3, 28, 182, 1, 211]
abbrev dktX3_stopsAs_1 : List UInt8 := dkwX3_stopsAs_1 ++ dktX3_stopsAs_2
def dkwX3_stopsAs_0 : List UInt8 := [27, 6, 159, 0, 8, 27, 8, 160, 0, 18, 42, 16, 40, 182, 1, 196, 42, 5, 28, 182, 1, 211, 6, 104]
abbrev dktX3_stopsAs_0 : List UInt8 := dkwX3_stopsAs_0 ++ dktX3_stopsAs_1
theorem dksX3_stopsAs_0 : cX3_stopsAs.data.toList.drop 0 = dktX3_stopsAs_0 := by decide +kernel
theorem dksX3_stopsAs_1 : cX3_stopsAs.data.toList.drop 24 = dktX3_stopsAs_1 := dk_seg dksX3_stopsAs_0 24 rfl rfl
theorem dksX3_stopsAs_2 : cX3_stopsAs.data.toList.drop 48 = dktX3_stopsAs_2 := dk_seg dksX3_stopsAs_1 24 rfl rfl
theorem dksX3_stopsAs_3 : cX3_stopsAs.data.toList.drop 72 = dktX3_stopsAs_3 := dk_seg dksX3_stopsAs_2 24 rfl rfl
theorem dX3_stopsAs_0 : decode cX3_stopsAs 0 = .ok (.iload_n 1, 1) := dk_27 (dk_at dksX3_stopsAs_0 0 rfl rfl)
theorem dX3_stopsAs_1 : decode cX3_stopsAs 1 = .ok (.iconst 3, 1) := dk_6 (dk_at dksX3_stopsAs_0 1 rfl rfl)
theorem dX3_stopsAs_2 : decode cX3_stopsAs 2 = .ok (.if_icmp .eq 8, 3) := dk_159 0 8 (dk_at dksX3_stopsAs_0 2 rfl rfl)
theorem dX3_stopsAs_5 : decode cX3_stopsAs 5 = .ok (.iload_n 1, 1) := dk_27 (dk_at dksX3_stopsAs_0 5 rfl rfl)
theorem dX3_stopsAs_6 : decode cX3_stopsAs 6 = .ok (.iconst 5, 1) := dk_8 (dk_at dksX3_stopsAs_0 6 rfl rfl)
theorem dX3_stopsAs_7 : decode cX3_stopsAs 7 = .ok (.if_icmp .ne 18, 3) := dk_160 0 18 (dk_at dksX3_stopsAs_0 7 rfl rfl)
theorem dX3_stopsAs_10 : decode cX3_stopsAs 10 = .ok (.aload_n 0, 1) := dk_42 (dk_at dksX3_stopsAs_0 10 rfl rfl)
theorem dX3_stopsAs_11 : decode cX3_stopsAs 11 = .ok (.bipush 40, 2) := dk_16 40 (dk_at dksX3_stopsAs_0 11 rfl rfl)
theorem dX3_stopsAs_13 : decode cX3_stopsAs 13 = .ok (.invokevirtual 452, 3) := dk_182 1 196 (dk_at dksX3_stopsAs_0 13 rfl rfl)
theorem dX3_stopsAs_16 : decode cX3_stopsAs 16 = .ok (.aload_n 0, 1) := dk_42 (dk_at dksX3_stopsAs_0 16 rfl rfl)
theorem dX3_stopsAs_17 : decode cX3_stopsAs 17 = .ok (.iconst 2, 1) := dk_5 (dk_at dksX3_stopsAs_0 17 rfl rfl)
theorem dX3_stopsAs_18 : decode cX3_stopsAs 18 = .ok (.iload_n 2, 1) := dk_28 (dk_at dksX3_stopsAs_0 18 rfl rfl)
theorem dX3_stopsAs_19 : decode cX3_stopsAs 19 = .ok (.invokevirtual 467, 3) := dk_182 1 211 (dk_at dksX3_stopsAs_0 19 rfl rfl)
theorem dX3_stopsAs_22 : decode cX3_stopsAs 22 = .ok (.iconst 3, 1) := dk_6 (dk_at dksX3_stopsAs_0 22 rfl rfl)
theorem dX3_stopsAs_23 : decode cX3_stopsAs 23 = .ok (.imul, 1) := dk_104 (dk_at dksX3_stopsAs_0 23 rfl rfl)
theorem dX3_stopsAs_24 : decode cX3_stopsAs 24 = .ok (.ireturn, 1) := dk_172 (dk_at dksX3_stopsAs_1 0 rfl rfl)
theorem dX3_stopsAs_25 : decode cX3_stopsAs 25 = .ok (.iload_n 1, 1) := dk_27 (dk_at dksX3_stopsAs_1 1 rfl rfl)
theorem dX3_stopsAs_26 : decode cX3_stopsAs 26 = .ok (.iconst 4, 1) := dk_7 (dk_at dksX3_stopsAs_1 2 rfl rfl)
theorem dX3_stopsAs_27 : decode cX3_stopsAs 27 = .ok (.if_icmp .eq 9, 3) := dk_159 0 9 (dk_at dksX3_stopsAs_1 3 rfl rfl)
theorem dX3_stopsAs_30 : decode cX3_stopsAs 30 = .ok (.iload_n 1, 1) := dk_27 (dk_at dksX3_stopsAs_1 6 rfl rfl)
theorem dX3_stopsAs_31 : decode cX3_stopsAs 31 = .ok (.bipush 7, 2) := dk_16 7 (dk_at dksX3_stopsAs_1 7 rfl rfl)
theorem dX3_stopsAs_33 : decode cX3_stopsAs 33 = .ok (.if_icmp .ne 28, 3) := dk_160 0 28 (dk_at dksX3_stopsAs_1 9 rfl rfl)
theorem dX3_stopsAs_36 : decode cX3_stopsAs 36 = .ok (.aload_n 0, 1) := dk_42 (dk_at dksX3_stopsAs_1 12 rfl rfl)
theorem dX3_stopsAs_37 : decode cX3_stopsAs 37 = .ok (.bipush 50, 2) := dk_16 50 (dk_at dksX3_stopsAs_1 13 rfl rfl)
theorem dX3_stopsAs_39 : decode cX3_stopsAs 39 = .ok (.invokevirtual 452, 3) := dk_182 1 196 (dk_at dksX3_stopsAs_1 15 rfl rfl)
theorem dX3_stopsAs_42 : decode cX3_stopsAs 42 = .ok (.aload_n 0, 1) := dk_42 (dk_at dksX3_stopsAs_1 18 rfl rfl)
theorem dX3_stopsAs_43 : decode cX3_stopsAs 43 = .ok (.iconst 0, 1) := dk_3 (dk_at dksX3_stopsAs_1 19 rfl rfl)
theorem dX3_stopsAs_44 : decode cX3_stopsAs 44 = .ok (.iload_n 2, 1) := dk_28 (dk_at dksX3_stopsAs_1 20 rfl rfl)
theorem dX3_stopsAs_45 : decode cX3_stopsAs 45 = .ok (.invokevirtual 467, 3) := dk_182 1 211 (dk_at dksX3_stopsAs_1 21 rfl rfl)
theorem dX3_stopsAs_48 : decode cX3_stopsAs 48 = .ok (.istore_n 3, 1) := dk_62 (dk_at dksX3_stopsAs_2 0 rfl rfl)
theorem dX3_stopsAs_49 : decode cX3_stopsAs 49 = .ok (.iload_n 3, 1) := dk_29 (dk_at dksX3_stopsAs_2 1 rfl rfl)
theorem dX3_stopsAs_50 : decode cX3_stopsAs 50 = .ok (.aload_n 0, 1) := dk_42 (dk_at dksX3_stopsAs_2 2 rfl rfl)
theorem dX3_stopsAs_51 : decode cX3_stopsAs 51 = .ok (.aload_n 0, 1) := dk_42 (dk_at dksX3_stopsAs_2 3 rfl rfl)
theorem dX3_stopsAs_52 : decode cX3_stopsAs 52 = .ok (.getfield 464, 3) := dk_180 1 208 (dk_at dksX3_stopsAs_2 4 rfl rfl)
theorem dX3_stopsAs_55 : decode cX3_stopsAs 55 = .ok (.iconst 2, 1) := dk_5 (dk_at dksX3_stopsAs_2 7 rfl rfl)
theorem dX3_stopsAs_56 : decode cX3_stopsAs 56 = .ok (.invokevirtual 455, 3) := dk_182 1 199 (dk_at dksX3_stopsAs_2 8 rfl rfl)
theorem dX3_stopsAs_59 : decode cX3_stopsAs 59 = .ok (.isub, 1) := dk_100 (dk_at dksX3_stopsAs_2 11 rfl rfl)
theorem dX3_stopsAs_60 : decode cX3_stopsAs 60 = .ok (.ireturn, 1) := dk_172 (dk_at dksX3_stopsAs_2 12 rfl rfl)
theorem dX3_stopsAs_61 : decode cX3_stopsAs 61 = .ok (.aload_n 0, 1) := dk_42 (dk_at dksX3_stopsAs_2 13 rfl rfl)
theorem dX3_stopsAs_62 : decode cX3_stopsAs 62 = .ok (.bipush 11, 2) := dk_16 11 (dk_at dksX3_stopsAs_2 14 rfl rfl)
theorem dX3_stopsAs_64 : decode cX3_stopsAs 64 = .ok (.invokevirtual 452, 3) := dk_182 1 196 (dk_at dksX3_stopsAs_2 16 rfl rfl)
theorem dX3_stopsAs_67 : decode cX3_stopsAs 67 = .ok (.iload_n 2, 1) := dk_28 (dk_at dksX3_stopsAs_2 19 rfl rfl)
theorem dX3_stopsAs_68 : decode cX3_stopsAs 68 = .ok (.aload_n 0, 1) := dk_42 (dk_at dksX3_stopsAs_2 20 rfl rfl)
theorem dX3_stopsAs_69 : decode cX3_stopsAs 69 = .ok (.getfield 458, 3) := dk_180 1 202 (dk_at dksX3_stopsAs_2 21 rfl rfl)
theorem dX3_stopsAs_72 : decode cX3_stopsAs 72 = .ok (.ixor, 1) := dk_130 (dk_at dksX3_stopsAs_3 0 rfl rfl)
theorem dX3_stopsAs_73 : decode cX3_stopsAs 73 = .ok (.ireturn, 1) := dk_172 (dk_at dksX3_stopsAs_3 1 rfl rfl)
abbrev cX3_decidesAs : ByteArray := prog_34_method_90_code
def yX3_decidesAs : MethodName := ⟨RX3, "decidesAs", "(II)I"⟩
def dkwX3_decidesAs_2 : List UInt8 := [42, 180, 1, 208, 28, 182, 1, 205, 62, 29, 42, 42, 180, 1, 208, 4, 182, 1, 211, 100, 172]
abbrev dktX3_decidesAs_2 : List UInt8 := dkwX3_decidesAs_2 ++ []
def dkwX3_decidesAs_1 : List UInt8 := [160, 0, 18, 42, 16, 81, 182, 1, 196, 42, 7, 28, 182, 1, 214, 4, 100, 172, 42, 5, 182, 1, 196, 42]
abbrev dktX3_decidesAs_1 : List UInt8 := dkwX3_decidesAs_1 ++ dktX3_decidesAs_2
def dkwX3_decidesAs_0 : List UInt8 := [27, 8, 160, 0, 18, 42, 16, 60, 182, 1, 196, 42, 6, 28, 182, 1, 214, 8, 130, 172, 27, 16, 7]
abbrev dktX3_decidesAs_0 : List UInt8 := dkwX3_decidesAs_0 ++ dktX3_decidesAs_1
theorem dksX3_decidesAs_0 : cX3_decidesAs.data.toList.drop 0 = dktX3_decidesAs_0 := by decide +kernel
theorem dksX3_decidesAs_1 : cX3_decidesAs.data.toList.drop 23 = dktX3_decidesAs_1 := dk_seg dksX3_decidesAs_0 23 rfl rfl
theorem dksX3_decidesAs_2 : cX3_decidesAs.data.toList.drop 47 = dktX3_decidesAs_2 := dk_seg dksX3_decidesAs_1 24 rfl rfl
theorem dX3_decidesAs_0 : decode cX3_decidesAs 0 = .ok (.iload_n 1, 1) := dk_27 (dk_at dksX3_decidesAs_0 0 rfl rfl)
theorem dX3_decidesAs_1 : decode cX3_decidesAs 1 = .ok (.iconst 5, 1) := dk_8 (dk_at dksX3_decidesAs_0 1 rfl rfl)
theorem dX3_decidesAs_2 : decode cX3_decidesAs 2 = .ok (.if_icmp .ne 18, 3) := dk_160 0 18 (dk_at dksX3_decidesAs_0 2 rfl rfl)
theorem dX3_decidesAs_5 : decode cX3_decidesAs 5 = .ok (.aload_n 0, 1) := dk_42 (dk_at dksX3_decidesAs_0 5 rfl rfl)
theorem dX3_decidesAs_6 : decode cX3_decidesAs 6 = .ok (.bipush 60, 2) := dk_16 60 (dk_at dksX3_decidesAs_0 6 rfl rfl)
theorem dX3_decidesAs_8 : decode cX3_decidesAs 8 = .ok (.invokevirtual 452, 3) := dk_182 1 196 (dk_at dksX3_decidesAs_0 8 rfl rfl)
theorem dX3_decidesAs_11 : decode cX3_decidesAs 11 = .ok (.aload_n 0, 1) := dk_42 (dk_at dksX3_decidesAs_0 11 rfl rfl)
theorem dX3_decidesAs_12 : decode cX3_decidesAs 12 = .ok (.iconst 3, 1) := dk_6 (dk_at dksX3_decidesAs_0 12 rfl rfl)
theorem dX3_decidesAs_13 : decode cX3_decidesAs 13 = .ok (.iload_n 2, 1) := dk_28 (dk_at dksX3_decidesAs_0 13 rfl rfl)
theorem dX3_decidesAs_14 : decode cX3_decidesAs 14 = .ok (.invokevirtual 470, 3) := dk_182 1 214 (dk_at dksX3_decidesAs_0 14 rfl rfl)
theorem dX3_decidesAs_17 : decode cX3_decidesAs 17 = .ok (.iconst 5, 1) := dk_8 (dk_at dksX3_decidesAs_0 17 rfl rfl)
theorem dX3_decidesAs_18 : decode cX3_decidesAs 18 = .ok (.ixor, 1) := dk_130 (dk_at dksX3_decidesAs_0 18 rfl rfl)
theorem dX3_decidesAs_19 : decode cX3_decidesAs 19 = .ok (.ireturn, 1) := dk_172 (dk_at dksX3_decidesAs_0 19 rfl rfl)
theorem dX3_decidesAs_20 : decode cX3_decidesAs 20 = .ok (.iload_n 1, 1) := dk_27 (dk_at dksX3_decidesAs_0 20 rfl rfl)
theorem dX3_decidesAs_21 : decode cX3_decidesAs 21 = .ok (.bipush 7, 2) := dk_16 7 (dk_at dksX3_decidesAs_0 21 rfl rfl)
theorem dX3_decidesAs_23 : decode cX3_decidesAs 23 = .ok (.if_icmp .ne 18, 3) := dk_160 0 18 (dk_at dksX3_decidesAs_1 0 rfl rfl)
theorem dX3_decidesAs_26 : decode cX3_decidesAs 26 = .ok (.aload_n 0, 1) := dk_42 (dk_at dksX3_decidesAs_1 3 rfl rfl)
theorem dX3_decidesAs_27 : decode cX3_decidesAs 27 = .ok (.bipush 81, 2) := dk_16 81 (dk_at dksX3_decidesAs_1 4 rfl rfl)
theorem dX3_decidesAs_29 : decode cX3_decidesAs 29 = .ok (.invokevirtual 452, 3) := dk_182 1 196 (dk_at dksX3_decidesAs_1 6 rfl rfl)
theorem dX3_decidesAs_32 : decode cX3_decidesAs 32 = .ok (.aload_n 0, 1) := dk_42 (dk_at dksX3_decidesAs_1 9 rfl rfl)
theorem dX3_decidesAs_33 : decode cX3_decidesAs 33 = .ok (.iconst 4, 1) := dk_7 (dk_at dksX3_decidesAs_1 10 rfl rfl)
theorem dX3_decidesAs_34 : decode cX3_decidesAs 34 = .ok (.iload_n 2, 1) := dk_28 (dk_at dksX3_decidesAs_1 11 rfl rfl)
theorem dX3_decidesAs_35 : decode cX3_decidesAs 35 = .ok (.invokevirtual 470, 3) := dk_182 1 214 (dk_at dksX3_decidesAs_1 12 rfl rfl)
theorem dX3_decidesAs_38 : decode cX3_decidesAs 38 = .ok (.iconst 1, 1) := dk_4 (dk_at dksX3_decidesAs_1 15 rfl rfl)
theorem dX3_decidesAs_39 : decode cX3_decidesAs 39 = .ok (.isub, 1) := dk_100 (dk_at dksX3_decidesAs_1 16 rfl rfl)
theorem dX3_decidesAs_40 : decode cX3_decidesAs 40 = .ok (.ireturn, 1) := dk_172 (dk_at dksX3_decidesAs_1 17 rfl rfl)
theorem dX3_decidesAs_41 : decode cX3_decidesAs 41 = .ok (.aload_n 0, 1) := dk_42 (dk_at dksX3_decidesAs_1 18 rfl rfl)
theorem dX3_decidesAs_42 : decode cX3_decidesAs 42 = .ok (.iconst 2, 1) := dk_5 (dk_at dksX3_decidesAs_1 19 rfl rfl)
theorem dX3_decidesAs_43 : decode cX3_decidesAs 43 = .ok (.invokevirtual 452, 3) := dk_182 1 196 (dk_at dksX3_decidesAs_1 20 rfl rfl)
theorem dX3_decidesAs_46 : decode cX3_decidesAs 46 = .ok (.aload_n 0, 1) := dk_42 (dk_at dksX3_decidesAs_1 23 rfl rfl)
theorem dX3_decidesAs_47 : decode cX3_decidesAs 47 = .ok (.aload_n 0, 1) := dk_42 (dk_at dksX3_decidesAs_2 0 rfl rfl)
theorem dX3_decidesAs_48 : decode cX3_decidesAs 48 = .ok (.getfield 464, 3) := dk_180 1 208 (dk_at dksX3_decidesAs_2 1 rfl rfl)
theorem dX3_decidesAs_51 : decode cX3_decidesAs 51 = .ok (.iload_n 2, 1) := dk_28 (dk_at dksX3_decidesAs_2 4 rfl rfl)
theorem dX3_decidesAs_52 : decode cX3_decidesAs 52 = .ok (.invokevirtual 461, 3) := dk_182 1 205 (dk_at dksX3_decidesAs_2 5 rfl rfl)
theorem dX3_decidesAs_55 : decode cX3_decidesAs 55 = .ok (.istore_n 3, 1) := dk_62 (dk_at dksX3_decidesAs_2 8 rfl rfl)
theorem dX3_decidesAs_56 : decode cX3_decidesAs 56 = .ok (.iload_n 3, 1) := dk_29 (dk_at dksX3_decidesAs_2 9 rfl rfl)
theorem dX3_decidesAs_57 : decode cX3_decidesAs 57 = .ok (.aload_n 0, 1) := dk_42 (dk_at dksX3_decidesAs_2 10 rfl rfl)
theorem dX3_decidesAs_58 : decode cX3_decidesAs 58 = .ok (.aload_n 0, 1) := dk_42 (dk_at dksX3_decidesAs_2 11 rfl rfl)
theorem dX3_decidesAs_59 : decode cX3_decidesAs 59 = .ok (.getfield 464, 3) := dk_180 1 208 (dk_at dksX3_decidesAs_2 12 rfl rfl)
theorem dX3_decidesAs_62 : decode cX3_decidesAs 62 = .ok (.iconst 1, 1) := dk_4 (dk_at dksX3_decidesAs_2 15 rfl rfl)
theorem dX3_decidesAs_63 : decode cX3_decidesAs 63 = .ok (.invokevirtual 467, 3) := dk_182 1 211 (dk_at dksX3_decidesAs_2 16 rfl rfl)
theorem dX3_decidesAs_66 : decode cX3_decidesAs 66 = .ok (.isub, 1) := dk_100 (dk_at dksX3_decidesAs_2 19 rfl rfl)
theorem dX3_decidesAs_67 : decode cX3_decidesAs 67 = .ok (.ireturn, 1) := dk_172 (dk_at dksX3_decidesAs_2 20 rfl rfl)
abbrev cX3_trace : ByteArray := prog_34_method_92_code
def yX3_trace : MethodName := ⟨RX3, "trace", "(I)I"⟩
def dkwX3_trace_1 : List UInt8 := [167, 0, 4, 2, 172]
abbrev dktX3_trace_1 : List UInt8 := dkwX3_trace_1 ++ []
def dkwX3_trace_0 : List UInt8 := [27, 155, 0, 26, 27, 42, 180, 1, 193, 162, 0, 18, 27, 16, 24, 162, 0, 12, 42, 180, 0, 127, 27, 46]
abbrev dktX3_trace_0 : List UInt8 := dkwX3_trace_0 ++ dktX3_trace_1
theorem dksX3_trace_0 : cX3_trace.data.toList.drop 0 = dktX3_trace_0 := by decide +kernel
theorem dksX3_trace_1 : cX3_trace.data.toList.drop 24 = dktX3_trace_1 := dk_seg dksX3_trace_0 24 rfl rfl
theorem dX3_trace_0 : decode cX3_trace 0 = .ok (.iload_n 1, 1) := dk_27 (dk_at dksX3_trace_0 0 rfl rfl)
theorem dX3_trace_1 : decode cX3_trace 1 = .ok (.ifCond .lt 26, 3) := dk_155 0 26 (dk_at dksX3_trace_0 1 rfl rfl)
theorem dX3_trace_4 : decode cX3_trace 4 = .ok (.iload_n 1, 1) := dk_27 (dk_at dksX3_trace_0 4 rfl rfl)
theorem dX3_trace_5 : decode cX3_trace 5 = .ok (.aload_n 0, 1) := dk_42 (dk_at dksX3_trace_0 5 rfl rfl)
theorem dX3_trace_6 : decode cX3_trace 6 = .ok (.getfield 449, 3) := dk_180 1 193 (dk_at dksX3_trace_0 6 rfl rfl)
theorem dX3_trace_9 : decode cX3_trace 9 = .ok (.if_icmp .ge 18, 3) := dk_162 0 18 (dk_at dksX3_trace_0 9 rfl rfl)
theorem dX3_trace_12 : decode cX3_trace 12 = .ok (.iload_n 1, 1) := dk_27 (dk_at dksX3_trace_0 12 rfl rfl)
theorem dX3_trace_13 : decode cX3_trace 13 = .ok (.bipush 24, 2) := dk_16 24 (dk_at dksX3_trace_0 13 rfl rfl)
theorem dX3_trace_15 : decode cX3_trace 15 = .ok (.if_icmp .ge 12, 3) := dk_162 0 12 (dk_at dksX3_trace_0 15 rfl rfl)
theorem dX3_trace_18 : decode cX3_trace 18 = .ok (.aload_n 0, 1) := dk_42 (dk_at dksX3_trace_0 18 rfl rfl)
theorem dX3_trace_19 : decode cX3_trace 19 = .ok (.getfield 127, 3) := dk_180 0 127 (dk_at dksX3_trace_0 19 rfl rfl)
theorem dX3_trace_22 : decode cX3_trace 22 = .ok (.iload_n 1, 1) := dk_27 (dk_at dksX3_trace_0 22 rfl rfl)
theorem dX3_trace_23 : decode cX3_trace 23 = .ok (.iaload, 1) := dk_46 (dk_at dksX3_trace_0 23 rfl rfl)
theorem dX3_trace_24 : decode cX3_trace 24 = .ok (.goto 4, 3) := dk_167 0 4 (dk_at dksX3_trace_1 0 rfl rfl)
theorem dX3_trace_27 : decode cX3_trace 27 = .ok (.iconst (-1), 1) := dk_2 (dk_at dksX3_trace_1 3 rfl rfl)
theorem dX3_trace_28 : decode cX3_trace 28 = .ok (.ireturn, 1) := dk_172 (dk_at dksX3_trace_1 4 rfl rfl)
abbrev cX3_keep : ByteArray := prog_34_method_94_code
def yX3_keep : MethodName := ⟨RX3, "keep", "(II)I"⟩
def dkwX3_keep_1 : List UInt8 := [180, 0, 130, 27, 28, 79, 42, 180, 0, 133, 27, 3, 79, 4, 172]
abbrev dktX3_keep_1 : List UInt8 := dkwX3_keep_1 ++ []
def dkwX3_keep_0 : List UInt8 := [27, 184, 0, 198, 153, 0, 16, 28, 2, 159, 0, 13, 42, 28, 182, 1, 217, 154, 0, 5, 2, 172, 42]
abbrev dktX3_keep_0 : List UInt8 := dkwX3_keep_0 ++ dktX3_keep_1
theorem dksX3_keep_0 : cX3_keep.data.toList.drop 0 = dktX3_keep_0 := by decide +kernel
theorem dksX3_keep_1 : cX3_keep.data.toList.drop 23 = dktX3_keep_1 := dk_seg dksX3_keep_0 23 rfl rfl
theorem dX3_keep_0 : decode cX3_keep 0 = .ok (.iload_n 1, 1) := dk_27 (dk_at dksX3_keep_0 0 rfl rfl)
theorem dX3_keep_1 : decode cX3_keep 1 = .ok (.invokestatic 198, 3) := dk_184 0 198 (dk_at dksX3_keep_0 1 rfl rfl)
theorem dX3_keep_4 : decode cX3_keep 4 = .ok (.ifCond .eq 16, 3) := dk_153 0 16 (dk_at dksX3_keep_0 4 rfl rfl)
theorem dX3_keep_7 : decode cX3_keep 7 = .ok (.iload_n 2, 1) := dk_28 (dk_at dksX3_keep_0 7 rfl rfl)
theorem dX3_keep_8 : decode cX3_keep 8 = .ok (.iconst (-1), 1) := dk_2 (dk_at dksX3_keep_0 8 rfl rfl)
theorem dX3_keep_9 : decode cX3_keep 9 = .ok (.if_icmp .eq 13, 3) := dk_159 0 13 (dk_at dksX3_keep_0 9 rfl rfl)
theorem dX3_keep_12 : decode cX3_keep 12 = .ok (.aload_n 0, 1) := dk_42 (dk_at dksX3_keep_0 12 rfl rfl)
theorem dX3_keep_13 : decode cX3_keep 13 = .ok (.iload_n 2, 1) := dk_28 (dk_at dksX3_keep_0 13 rfl rfl)
theorem dX3_keep_14 : decode cX3_keep 14 = .ok (.invokevirtual 473, 3) := dk_182 1 217 (dk_at dksX3_keep_0 14 rfl rfl)
theorem dX3_keep_17 : decode cX3_keep 17 = .ok (.ifCond .ne 5, 3) := dk_154 0 5 (dk_at dksX3_keep_0 17 rfl rfl)
theorem dX3_keep_20 : decode cX3_keep 20 = .ok (.iconst (-1), 1) := dk_2 (dk_at dksX3_keep_0 20 rfl rfl)
theorem dX3_keep_21 : decode cX3_keep 21 = .ok (.ireturn, 1) := dk_172 (dk_at dksX3_keep_0 21 rfl rfl)
theorem dX3_keep_22 : decode cX3_keep 22 = .ok (.aload_n 0, 1) := dk_42 (dk_at dksX3_keep_0 22 rfl rfl)
theorem dX3_keep_23 : decode cX3_keep 23 = .ok (.getfield 130, 3) := dk_180 0 130 (dk_at dksX3_keep_1 0 rfl rfl)
theorem dX3_keep_26 : decode cX3_keep 26 = .ok (.iload_n 1, 1) := dk_27 (dk_at dksX3_keep_1 3 rfl rfl)
theorem dX3_keep_27 : decode cX3_keep 27 = .ok (.iload_n 2, 1) := dk_28 (dk_at dksX3_keep_1 4 rfl rfl)
theorem dX3_keep_28 : decode cX3_keep 28 = .ok (.iastore, 1) := dk_79 (dk_at dksX3_keep_1 5 rfl rfl)
theorem dX3_keep_29 : decode cX3_keep 29 = .ok (.aload_n 0, 1) := dk_42 (dk_at dksX3_keep_1 6 rfl rfl)
theorem dX3_keep_30 : decode cX3_keep 30 = .ok (.getfield 133, 3) := dk_180 0 133 (dk_at dksX3_keep_1 7 rfl rfl)
theorem dX3_keep_33 : decode cX3_keep 33 = .ok (.iload_n 1, 1) := dk_27 (dk_at dksX3_keep_1 10 rfl rfl)
theorem dX3_keep_34 : decode cX3_keep 34 = .ok (.iconst 0, 1) := dk_3 (dk_at dksX3_keep_1 11 rfl rfl)
theorem dX3_keep_35 : decode cX3_keep 35 = .ok (.iastore, 1) := dk_79 (dk_at dksX3_keep_1 12 rfl rfl)
theorem dX3_keep_36 : decode cX3_keep 36 = .ok (.iconst 1, 1) := dk_4 (dk_at dksX3_keep_1 13 rfl rfl)
theorem dX3_keep_37 : decode cX3_keep 37 = .ok (.ireturn, 1) := dk_172 (dk_at dksX3_keep_1 14 rfl rfl)
abbrev cX3_row : ByteArray := prog_34_method_95_code
def yX3_row : MethodName := ⟨RX3, "row", "(III)I"⟩
def dkwX3_row_3 : List UInt8 := [42, 180, 0, 136, 21, 4, 9, 80, 132, 4, 1, 167, 255, 233, 4, 172]
abbrev dktX3_row_3 : List UInt8 := dkwX3_row_3 ++ []
def dkwX3_row_2 : List UInt8 := [180, 0, 133, 27, 29, 79, 16, 60, 27, 104, 54, 4, 21, 4, 16, 60, 27, 104, 16, 60, 96, 162, 0, 17]
abbrev dktX3_row_2 : List UInt8 := dkwX3_row_2 ++ dktX3_row_3
def dkwX3_row_1 : List UInt8 := [164, 0, 5, 2, 172, 29, 156, 0, 6, 16, 242, 172, 42, 180, 0, 130, 27, 16, 50, 28, 96, 79, 42]
abbrev dktX3_row_1 : List UInt8 := dkwX3_row_1 ++ dktX3_row_2
def dkwX3_row_0 : List UInt8 := [27, 184, 0, 198, 153, 0, 21, 28, 133, 9, 20, 1, 220, 184, 0, 162, 153, 0, 9, 29, 16, 60]
abbrev dktX3_row_0 : List UInt8 := dkwX3_row_0 ++ dktX3_row_1
theorem dksX3_row_0 : cX3_row.data.toList.drop 0 = dktX3_row_0 := by decide +kernel
theorem dksX3_row_1 : cX3_row.data.toList.drop 22 = dktX3_row_1 := dk_seg dksX3_row_0 22 rfl rfl
theorem dksX3_row_2 : cX3_row.data.toList.drop 45 = dktX3_row_2 := dk_seg dksX3_row_1 23 rfl rfl
theorem dksX3_row_3 : cX3_row.data.toList.drop 69 = dktX3_row_3 := dk_seg dksX3_row_2 24 rfl rfl
theorem dX3_row_0 : decode cX3_row 0 = .ok (.iload_n 1, 1) := dk_27 (dk_at dksX3_row_0 0 rfl rfl)
theorem dX3_row_1 : decode cX3_row 1 = .ok (.invokestatic 198, 3) := dk_184 0 198 (dk_at dksX3_row_0 1 rfl rfl)
theorem dX3_row_4 : decode cX3_row 4 = .ok (.ifCond .eq 21, 3) := dk_153 0 21 (dk_at dksX3_row_0 4 rfl rfl)
theorem dX3_row_7 : decode cX3_row 7 = .ok (.iload_n 2, 1) := dk_28 (dk_at dksX3_row_0 7 rfl rfl)
theorem dX3_row_8 : decode cX3_row 8 = .ok (.i2l, 1) := dk_133 (dk_at dksX3_row_0 8 rfl rfl)
theorem dX3_row_9 : decode cX3_row 9 = .ok (.lconst 0, 1) := dk_9 (dk_at dksX3_row_0 9 rfl rfl)
theorem dX3_row_10 : decode cX3_row 10 = .ok (.ldc2_w 476, 3) := dk_20 1 220 (dk_at dksX3_row_0 10 rfl rfl)
theorem dX3_row_13 : decode cX3_row 13 = .ok (.invokestatic 162, 3) := dk_184 0 162 (dk_at dksX3_row_0 13 rfl rfl)
theorem dX3_row_16 : decode cX3_row 16 = .ok (.ifCond .eq 9, 3) := dk_153 0 9 (dk_at dksX3_row_0 16 rfl rfl)
theorem dX3_row_19 : decode cX3_row 19 = .ok (.iload_n 3, 1) := dk_29 (dk_at dksX3_row_0 19 rfl rfl)
theorem dX3_row_20 : decode cX3_row 20 = .ok (.bipush 60, 2) := dk_16 60 (dk_at dksX3_row_0 20 rfl rfl)
theorem dX3_row_22 : decode cX3_row 22 = .ok (.if_icmp .le 5, 3) := dk_164 0 5 (dk_at dksX3_row_1 0 rfl rfl)
theorem dX3_row_25 : decode cX3_row 25 = .ok (.iconst (-1), 1) := dk_2 (dk_at dksX3_row_1 3 rfl rfl)
theorem dX3_row_26 : decode cX3_row 26 = .ok (.ireturn, 1) := dk_172 (dk_at dksX3_row_1 4 rfl rfl)
theorem dX3_row_27 : decode cX3_row 27 = .ok (.iload_n 3, 1) := dk_29 (dk_at dksX3_row_1 5 rfl rfl)
theorem dX3_row_28 : decode cX3_row 28 = .ok (.ifCond .ge 6, 3) := dk_156 0 6 (dk_at dksX3_row_1 6 rfl rfl)
theorem dX3_row_31 : decode cX3_row 31 = .ok (.bipush (-14), 2) := dk_16 242 (dk_at dksX3_row_1 9 rfl rfl)
theorem dX3_row_33 : decode cX3_row 33 = .ok (.ireturn, 1) := dk_172 (dk_at dksX3_row_1 11 rfl rfl)
theorem dX3_row_34 : decode cX3_row 34 = .ok (.aload_n 0, 1) := dk_42 (dk_at dksX3_row_1 12 rfl rfl)
theorem dX3_row_35 : decode cX3_row 35 = .ok (.getfield 130, 3) := dk_180 0 130 (dk_at dksX3_row_1 13 rfl rfl)
theorem dX3_row_38 : decode cX3_row 38 = .ok (.iload_n 1, 1) := dk_27 (dk_at dksX3_row_1 16 rfl rfl)
theorem dX3_row_39 : decode cX3_row 39 = .ok (.bipush 50, 2) := dk_16 50 (dk_at dksX3_row_1 17 rfl rfl)
theorem dX3_row_41 : decode cX3_row 41 = .ok (.iload_n 2, 1) := dk_28 (dk_at dksX3_row_1 19 rfl rfl)
theorem dX3_row_42 : decode cX3_row 42 = .ok (.iadd, 1) := dk_96 (dk_at dksX3_row_1 20 rfl rfl)
theorem dX3_row_43 : decode cX3_row 43 = .ok (.iastore, 1) := dk_79 (dk_at dksX3_row_1 21 rfl rfl)
theorem dX3_row_44 : decode cX3_row 44 = .ok (.aload_n 0, 1) := dk_42 (dk_at dksX3_row_1 22 rfl rfl)
theorem dX3_row_45 : decode cX3_row 45 = .ok (.getfield 133, 3) := dk_180 0 133 (dk_at dksX3_row_2 0 rfl rfl)
theorem dX3_row_48 : decode cX3_row 48 = .ok (.iload_n 1, 1) := dk_27 (dk_at dksX3_row_2 3 rfl rfl)
theorem dX3_row_49 : decode cX3_row 49 = .ok (.iload_n 3, 1) := dk_29 (dk_at dksX3_row_2 4 rfl rfl)
theorem dX3_row_50 : decode cX3_row 50 = .ok (.iastore, 1) := dk_79 (dk_at dksX3_row_2 5 rfl rfl)
theorem dX3_row_51 : decode cX3_row 51 = .ok (.bipush 60, 2) := dk_16 60 (dk_at dksX3_row_2 6 rfl rfl)
theorem dX3_row_53 : decode cX3_row 53 = .ok (.iload_n 1, 1) := dk_27 (dk_at dksX3_row_2 8 rfl rfl)
theorem dX3_row_54 : decode cX3_row 54 = .ok (.imul, 1) := dk_104 (dk_at dksX3_row_2 9 rfl rfl)
theorem dX3_row_55 : decode cX3_row 55 = .ok (.istore 4, 2) := dk_54 4 (dk_at dksX3_row_2 10 rfl rfl)
theorem dX3_row_57 : decode cX3_row 57 = .ok (.iload 4, 2) := dk_21 4 (dk_at dksX3_row_2 12 rfl rfl)
theorem dX3_row_59 : decode cX3_row 59 = .ok (.bipush 60, 2) := dk_16 60 (dk_at dksX3_row_2 14 rfl rfl)
theorem dX3_row_61 : decode cX3_row 61 = .ok (.iload_n 1, 1) := dk_27 (dk_at dksX3_row_2 16 rfl rfl)
theorem dX3_row_62 : decode cX3_row 62 = .ok (.imul, 1) := dk_104 (dk_at dksX3_row_2 17 rfl rfl)
theorem dX3_row_63 : decode cX3_row 63 = .ok (.bipush 60, 2) := dk_16 60 (dk_at dksX3_row_2 18 rfl rfl)
theorem dX3_row_65 : decode cX3_row 65 = .ok (.iadd, 1) := dk_96 (dk_at dksX3_row_2 20 rfl rfl)
theorem dX3_row_66 : decode cX3_row 66 = .ok (.if_icmp .ge 17, 3) := dk_162 0 17 (dk_at dksX3_row_2 21 rfl rfl)
theorem dX3_row_69 : decode cX3_row 69 = .ok (.aload_n 0, 1) := dk_42 (dk_at dksX3_row_3 0 rfl rfl)
theorem dX3_row_70 : decode cX3_row 70 = .ok (.getfield 136, 3) := dk_180 0 136 (dk_at dksX3_row_3 1 rfl rfl)
theorem dX3_row_73 : decode cX3_row 73 = .ok (.iload 4, 2) := dk_21 4 (dk_at dksX3_row_3 4 rfl rfl)
theorem dX3_row_75 : decode cX3_row 75 = .ok (.lconst 0, 1) := dk_9 (dk_at dksX3_row_3 6 rfl rfl)
theorem dX3_row_76 : decode cX3_row 76 = .ok (.lastore, 1) := dk_80 (dk_at dksX3_row_3 7 rfl rfl)
theorem dX3_row_77 : decode cX3_row 77 = .ok (.iinc 4 1, 3) := dk_132 4 1 (dk_at dksX3_row_3 8 rfl rfl)
theorem dX3_row_80 : decode cX3_row 80 = .ok (.goto (-23), 3) := dk_167 255 233 (dk_at dksX3_row_3 11 rfl rfl)
theorem dX3_row_83 : decode cX3_row 83 = .ok (.iconst 1, 1) := dk_4 (dk_at dksX3_row_3 14 rfl rfl)
theorem dX3_row_84 : decode cX3_row 84 = .ok (.ireturn, 1) := dk_172 (dk_at dksX3_row_3 15 rfl rfl)
abbrev cX3_put : ByteArray := prog_34_method_98_code
def yX3_put : MethodName := ⟨RX3, "put", "(IIJ)I"⟩
def dkwX3_put_2 : List UInt8 := [172]
abbrev dktX3_put_2 : List UInt8 := dkwX3_put_2 ++ []
def dkwX3_put_1 : List UInt8 := [180, 0, 130, 27, 46, 16, 50, 100, 33, 184, 1, 225, 80, 21, 5, 154, 0, 7, 4, 167, 0, 5, 21, 5]
abbrev dktX3_put_1 : List UInt8 := dkwX3_put_1 ++ dktX3_put_2
def dkwX3_put_0 : List UInt8 := [42, 27, 28, 182, 1, 222, 54, 5, 21, 5, 154, 0, 27, 42, 180, 0, 136, 16, 60, 27, 104, 28, 96, 42]
abbrev dktX3_put_0 : List UInt8 := dkwX3_put_0 ++ dktX3_put_1
theorem dksX3_put_0 : cX3_put.data.toList.drop 0 = dktX3_put_0 := by decide +kernel
theorem dksX3_put_1 : cX3_put.data.toList.drop 24 = dktX3_put_1 := dk_seg dksX3_put_0 24 rfl rfl
theorem dksX3_put_2 : cX3_put.data.toList.drop 48 = dktX3_put_2 := dk_seg dksX3_put_1 24 rfl rfl
theorem dX3_put_0 : decode cX3_put 0 = .ok (.aload_n 0, 1) := dk_42 (dk_at dksX3_put_0 0 rfl rfl)
theorem dX3_put_1 : decode cX3_put 1 = .ok (.iload_n 1, 1) := dk_27 (dk_at dksX3_put_0 1 rfl rfl)
theorem dX3_put_2 : decode cX3_put 2 = .ok (.iload_n 2, 1) := dk_28 (dk_at dksX3_put_0 2 rfl rfl)
theorem dX3_put_3 : decode cX3_put 3 = .ok (.invokevirtual 478, 3) := dk_182 1 222 (dk_at dksX3_put_0 3 rfl rfl)
theorem dX3_put_6 : decode cX3_put 6 = .ok (.istore 5, 2) := dk_54 5 (dk_at dksX3_put_0 6 rfl rfl)
theorem dX3_put_8 : decode cX3_put 8 = .ok (.iload 5, 2) := dk_21 5 (dk_at dksX3_put_0 8 rfl rfl)
theorem dX3_put_10 : decode cX3_put 10 = .ok (.ifCond .ne 27, 3) := dk_154 0 27 (dk_at dksX3_put_0 10 rfl rfl)
theorem dX3_put_13 : decode cX3_put 13 = .ok (.aload_n 0, 1) := dk_42 (dk_at dksX3_put_0 13 rfl rfl)
theorem dX3_put_14 : decode cX3_put 14 = .ok (.getfield 136, 3) := dk_180 0 136 (dk_at dksX3_put_0 14 rfl rfl)
theorem dX3_put_17 : decode cX3_put 17 = .ok (.bipush 60, 2) := dk_16 60 (dk_at dksX3_put_0 17 rfl rfl)
theorem dX3_put_19 : decode cX3_put 19 = .ok (.iload_n 1, 1) := dk_27 (dk_at dksX3_put_0 19 rfl rfl)
theorem dX3_put_20 : decode cX3_put 20 = .ok (.imul, 1) := dk_104 (dk_at dksX3_put_0 20 rfl rfl)
theorem dX3_put_21 : decode cX3_put 21 = .ok (.iload_n 2, 1) := dk_28 (dk_at dksX3_put_0 21 rfl rfl)
theorem dX3_put_22 : decode cX3_put 22 = .ok (.iadd, 1) := dk_96 (dk_at dksX3_put_0 22 rfl rfl)
theorem dX3_put_23 : decode cX3_put 23 = .ok (.aload_n 0, 1) := dk_42 (dk_at dksX3_put_0 23 rfl rfl)
theorem dX3_put_24 : decode cX3_put 24 = .ok (.getfield 130, 3) := dk_180 0 130 (dk_at dksX3_put_1 0 rfl rfl)
theorem dX3_put_27 : decode cX3_put 27 = .ok (.iload_n 1, 1) := dk_27 (dk_at dksX3_put_1 3 rfl rfl)
theorem dX3_put_28 : decode cX3_put 28 = .ok (.iaload, 1) := dk_46 (dk_at dksX3_put_1 4 rfl rfl)
theorem dX3_put_29 : decode cX3_put 29 = .ok (.bipush 50, 2) := dk_16 50 (dk_at dksX3_put_1 5 rfl rfl)
theorem dX3_put_31 : decode cX3_put 31 = .ok (.isub, 1) := dk_100 (dk_at dksX3_put_1 7 rfl rfl)
theorem dX3_put_32 : decode cX3_put 32 = .ok (.lload_n 3, 1) := dk_33 (dk_at dksX3_put_1 8 rfl rfl)
theorem dX3_put_33 : decode cX3_put 33 = .ok (.invokestatic 481, 3) := dk_184 1 225 (dk_at dksX3_put_1 9 rfl rfl)
theorem dX3_put_36 : decode cX3_put 36 = .ok (.lastore, 1) := dk_80 (dk_at dksX3_put_1 12 rfl rfl)
theorem dX3_put_37 : decode cX3_put 37 = .ok (.iload 5, 2) := dk_21 5 (dk_at dksX3_put_1 13 rfl rfl)
theorem dX3_put_39 : decode cX3_put 39 = .ok (.ifCond .ne 7, 3) := dk_154 0 7 (dk_at dksX3_put_1 15 rfl rfl)
theorem dX3_put_42 : decode cX3_put 42 = .ok (.iconst 1, 1) := dk_4 (dk_at dksX3_put_1 18 rfl rfl)
theorem dX3_put_43 : decode cX3_put 43 = .ok (.goto 5, 3) := dk_167 0 5 (dk_at dksX3_put_1 19 rfl rfl)
theorem dX3_put_46 : decode cX3_put 46 = .ok (.iload 5, 2) := dk_21 5 (dk_at dksX3_put_1 22 rfl rfl)
theorem dX3_put_48 : decode cX3_put 48 = .ok (.ireturn, 1) := dk_172 (dk_at dksX3_put_2 0 rfl rfl)
abbrev cX3_refusal : ByteArray := prog_34_method_96_code
def yX3_refusal : MethodName := ⟨RX3, "refusal", "(II)I"⟩
def dkwX3_refusal_2 : List UInt8 := [162, 0, 7, 3, 167, 0, 5, 16, 243, 172]
abbrev dktX3_refusal_2 : List UInt8 := dkwX3_refusal_2 ++ []
def dkwX3_refusal_1 : List UInt8 := [180, 0, 130, 27, 46, 16, 50, 162, 0, 6, 16, 244, 172, 28, 155, 0, 17, 28, 42, 180, 0, 133, 27, 46]
abbrev dktX3_refusal_1 : List UInt8 := dkwX3_refusal_1 ++ dktX3_refusal_2
def dkwX3_refusal_0 : List UInt8 := [27, 184, 0, 198, 154, 0, 5, 2, 172, 42, 180, 0, 130, 27, 46, 156, 0, 6, 16, 245, 172, 42]
abbrev dktX3_refusal_0 : List UInt8 := dkwX3_refusal_0 ++ dktX3_refusal_1
theorem dksX3_refusal_0 : cX3_refusal.data.toList.drop 0 = dktX3_refusal_0 := by decide +kernel
theorem dksX3_refusal_1 : cX3_refusal.data.toList.drop 22 = dktX3_refusal_1 := dk_seg dksX3_refusal_0 22 rfl rfl
theorem dksX3_refusal_2 : cX3_refusal.data.toList.drop 46 = dktX3_refusal_2 := dk_seg dksX3_refusal_1 24 rfl rfl
theorem dX3_refusal_0 : decode cX3_refusal 0 = .ok (.iload_n 1, 1) := dk_27 (dk_at dksX3_refusal_0 0 rfl rfl)
theorem dX3_refusal_1 : decode cX3_refusal 1 = .ok (.invokestatic 198, 3) := dk_184 0 198 (dk_at dksX3_refusal_0 1 rfl rfl)
theorem dX3_refusal_4 : decode cX3_refusal 4 = .ok (.ifCond .ne 5, 3) := dk_154 0 5 (dk_at dksX3_refusal_0 4 rfl rfl)
theorem dX3_refusal_7 : decode cX3_refusal 7 = .ok (.iconst (-1), 1) := dk_2 (dk_at dksX3_refusal_0 7 rfl rfl)
theorem dX3_refusal_8 : decode cX3_refusal 8 = .ok (.ireturn, 1) := dk_172 (dk_at dksX3_refusal_0 8 rfl rfl)
theorem dX3_refusal_9 : decode cX3_refusal 9 = .ok (.aload_n 0, 1) := dk_42 (dk_at dksX3_refusal_0 9 rfl rfl)
theorem dX3_refusal_10 : decode cX3_refusal 10 = .ok (.getfield 130, 3) := dk_180 0 130 (dk_at dksX3_refusal_0 10 rfl rfl)
theorem dX3_refusal_13 : decode cX3_refusal 13 = .ok (.iload_n 1, 1) := dk_27 (dk_at dksX3_refusal_0 13 rfl rfl)
theorem dX3_refusal_14 : decode cX3_refusal 14 = .ok (.iaload, 1) := dk_46 (dk_at dksX3_refusal_0 14 rfl rfl)
theorem dX3_refusal_15 : decode cX3_refusal 15 = .ok (.ifCond .ge 6, 3) := dk_156 0 6 (dk_at dksX3_refusal_0 15 rfl rfl)
theorem dX3_refusal_18 : decode cX3_refusal 18 = .ok (.bipush (-11), 2) := dk_16 245 (dk_at dksX3_refusal_0 18 rfl rfl)
theorem dX3_refusal_20 : decode cX3_refusal 20 = .ok (.ireturn, 1) := dk_172 (dk_at dksX3_refusal_0 20 rfl rfl)
theorem dX3_refusal_21 : decode cX3_refusal 21 = .ok (.aload_n 0, 1) := dk_42 (dk_at dksX3_refusal_0 21 rfl rfl)
theorem dX3_refusal_22 : decode cX3_refusal 22 = .ok (.getfield 130, 3) := dk_180 0 130 (dk_at dksX3_refusal_1 0 rfl rfl)
theorem dX3_refusal_25 : decode cX3_refusal 25 = .ok (.iload_n 1, 1) := dk_27 (dk_at dksX3_refusal_1 3 rfl rfl)
theorem dX3_refusal_26 : decode cX3_refusal 26 = .ok (.iaload, 1) := dk_46 (dk_at dksX3_refusal_1 4 rfl rfl)
theorem dX3_refusal_27 : decode cX3_refusal 27 = .ok (.bipush 50, 2) := dk_16 50 (dk_at dksX3_refusal_1 5 rfl rfl)
theorem dX3_refusal_29 : decode cX3_refusal 29 = .ok (.if_icmp .ge 6, 3) := dk_162 0 6 (dk_at dksX3_refusal_1 7 rfl rfl)
theorem dX3_refusal_32 : decode cX3_refusal 32 = .ok (.bipush (-12), 2) := dk_16 244 (dk_at dksX3_refusal_1 10 rfl rfl)
theorem dX3_refusal_34 : decode cX3_refusal 34 = .ok (.ireturn, 1) := dk_172 (dk_at dksX3_refusal_1 12 rfl rfl)
theorem dX3_refusal_35 : decode cX3_refusal 35 = .ok (.iload_n 2, 1) := dk_28 (dk_at dksX3_refusal_1 13 rfl rfl)
theorem dX3_refusal_36 : decode cX3_refusal 36 = .ok (.ifCond .lt 17, 3) := dk_155 0 17 (dk_at dksX3_refusal_1 14 rfl rfl)
theorem dX3_refusal_39 : decode cX3_refusal 39 = .ok (.iload_n 2, 1) := dk_28 (dk_at dksX3_refusal_1 17 rfl rfl)
theorem dX3_refusal_40 : decode cX3_refusal 40 = .ok (.aload_n 0, 1) := dk_42 (dk_at dksX3_refusal_1 18 rfl rfl)
theorem dX3_refusal_41 : decode cX3_refusal 41 = .ok (.getfield 133, 3) := dk_180 0 133 (dk_at dksX3_refusal_1 19 rfl rfl)
theorem dX3_refusal_44 : decode cX3_refusal 44 = .ok (.iload_n 1, 1) := dk_27 (dk_at dksX3_refusal_1 22 rfl rfl)
theorem dX3_refusal_45 : decode cX3_refusal 45 = .ok (.iaload, 1) := dk_46 (dk_at dksX3_refusal_1 23 rfl rfl)
theorem dX3_refusal_46 : decode cX3_refusal 46 = .ok (.if_icmp .ge 7, 3) := dk_162 0 7 (dk_at dksX3_refusal_2 0 rfl rfl)
theorem dX3_refusal_49 : decode cX3_refusal 49 = .ok (.iconst 0, 1) := dk_3 (dk_at dksX3_refusal_2 3 rfl rfl)
theorem dX3_refusal_50 : decode cX3_refusal 50 = .ok (.goto 5, 3) := dk_167 0 5 (dk_at dksX3_refusal_2 4 rfl rfl)
theorem dX3_refusal_53 : decode cX3_refusal 53 = .ok (.bipush (-13), 2) := dk_16 243 (dk_at dksX3_refusal_2 7 rfl rfl)
theorem dX3_refusal_55 : decode cX3_refusal 55 = .ok (.ireturn, 1) := dk_172 (dk_at dksX3_refusal_2 9 rfl rfl)
abbrev cX3_asSort : ByteArray := prog_34_method_97_code
def yX3_asSort : MethodName := ⟨RX3, "asSort", "(IJ)J"⟩
def dkwX3_asSort_2 : List UInt8 := [167, 0, 8, 9, 167, 0, 4, 31, 173]
abbrev dktX3_asSort_2 : List UInt8 := dkwX3_asSort_2 ++ []
def dkwX3_asSort_1 : List UInt8 := [5, 160, 0, 9, 31, 136, 133, 167, 0, 23, 26, 7, 160, 0, 17, 31, 9, 148, 153, 0, 7, 10]
abbrev dktX3_asSort_1 : List UInt8 := dkwX3_asSort_1 ++ dktX3_asSort_2
def dkwX3_asSort_0 : List UInt8 := [26, 154, 0, 10, 31, 136, 145, 133, 167, 0, 46, 26, 4, 160, 0, 10, 31, 136, 147, 133, 167, 0, 34, 26]
abbrev dktX3_asSort_0 : List UInt8 := dkwX3_asSort_0 ++ dktX3_asSort_1
theorem dksX3_asSort_0 : cX3_asSort.data.toList.drop 0 = dktX3_asSort_0 := by decide +kernel
theorem dksX3_asSort_1 : cX3_asSort.data.toList.drop 24 = dktX3_asSort_1 := dk_seg dksX3_asSort_0 24 rfl rfl
theorem dksX3_asSort_2 : cX3_asSort.data.toList.drop 46 = dktX3_asSort_2 := dk_seg dksX3_asSort_1 22 rfl rfl
theorem dX3_asSort_0 : decode cX3_asSort 0 = .ok (.iload_n 0, 1) := dk_26 (dk_at dksX3_asSort_0 0 rfl rfl)
theorem dX3_asSort_1 : decode cX3_asSort 1 = .ok (.ifCond .ne 10, 3) := dk_154 0 10 (dk_at dksX3_asSort_0 1 rfl rfl)
theorem dX3_asSort_4 : decode cX3_asSort 4 = .ok (.lload_n 1, 1) := dk_31 (dk_at dksX3_asSort_0 4 rfl rfl)
theorem dX3_asSort_5 : decode cX3_asSort 5 = .ok (.l2i, 1) := dk_136 (dk_at dksX3_asSort_0 5 rfl rfl)
theorem dX3_asSort_6 : decode cX3_asSort 6 = .ok (.i2b, 1) := dk_145 (dk_at dksX3_asSort_0 6 rfl rfl)
theorem dX3_asSort_7 : decode cX3_asSort 7 = .ok (.i2l, 1) := dk_133 (dk_at dksX3_asSort_0 7 rfl rfl)
theorem dX3_asSort_8 : decode cX3_asSort 8 = .ok (.goto 46, 3) := dk_167 0 46 (dk_at dksX3_asSort_0 8 rfl rfl)
theorem dX3_asSort_11 : decode cX3_asSort 11 = .ok (.iload_n 0, 1) := dk_26 (dk_at dksX3_asSort_0 11 rfl rfl)
theorem dX3_asSort_12 : decode cX3_asSort 12 = .ok (.iconst 1, 1) := dk_4 (dk_at dksX3_asSort_0 12 rfl rfl)
theorem dX3_asSort_13 : decode cX3_asSort 13 = .ok (.if_icmp .ne 10, 3) := dk_160 0 10 (dk_at dksX3_asSort_0 13 rfl rfl)
theorem dX3_asSort_16 : decode cX3_asSort 16 = .ok (.lload_n 1, 1) := dk_31 (dk_at dksX3_asSort_0 16 rfl rfl)
theorem dX3_asSort_17 : decode cX3_asSort 17 = .ok (.l2i, 1) := dk_136 (dk_at dksX3_asSort_0 17 rfl rfl)
theorem dX3_asSort_18 : decode cX3_asSort 18 = .ok (.i2s, 1) := dk_147 (dk_at dksX3_asSort_0 18 rfl rfl)
theorem dX3_asSort_19 : decode cX3_asSort 19 = .ok (.i2l, 1) := dk_133 (dk_at dksX3_asSort_0 19 rfl rfl)
theorem dX3_asSort_20 : decode cX3_asSort 20 = .ok (.goto 34, 3) := dk_167 0 34 (dk_at dksX3_asSort_0 20 rfl rfl)
theorem dX3_asSort_23 : decode cX3_asSort 23 = .ok (.iload_n 0, 1) := dk_26 (dk_at dksX3_asSort_0 23 rfl rfl)
theorem dX3_asSort_24 : decode cX3_asSort 24 = .ok (.iconst 2, 1) := dk_5 (dk_at dksX3_asSort_1 0 rfl rfl)
theorem dX3_asSort_25 : decode cX3_asSort 25 = .ok (.if_icmp .ne 9, 3) := dk_160 0 9 (dk_at dksX3_asSort_1 1 rfl rfl)
theorem dX3_asSort_28 : decode cX3_asSort 28 = .ok (.lload_n 1, 1) := dk_31 (dk_at dksX3_asSort_1 4 rfl rfl)
theorem dX3_asSort_29 : decode cX3_asSort 29 = .ok (.l2i, 1) := dk_136 (dk_at dksX3_asSort_1 5 rfl rfl)
theorem dX3_asSort_30 : decode cX3_asSort 30 = .ok (.i2l, 1) := dk_133 (dk_at dksX3_asSort_1 6 rfl rfl)
theorem dX3_asSort_31 : decode cX3_asSort 31 = .ok (.goto 23, 3) := dk_167 0 23 (dk_at dksX3_asSort_1 7 rfl rfl)
theorem dX3_asSort_34 : decode cX3_asSort 34 = .ok (.iload_n 0, 1) := dk_26 (dk_at dksX3_asSort_1 10 rfl rfl)
theorem dX3_asSort_35 : decode cX3_asSort 35 = .ok (.iconst 4, 1) := dk_7 (dk_at dksX3_asSort_1 11 rfl rfl)
theorem dX3_asSort_36 : decode cX3_asSort 36 = .ok (.if_icmp .ne 17, 3) := dk_160 0 17 (dk_at dksX3_asSort_1 12 rfl rfl)
theorem dX3_asSort_39 : decode cX3_asSort 39 = .ok (.lload_n 1, 1) := dk_31 (dk_at dksX3_asSort_1 15 rfl rfl)
theorem dX3_asSort_40 : decode cX3_asSort 40 = .ok (.lconst 0, 1) := dk_9 (dk_at dksX3_asSort_1 16 rfl rfl)
theorem dX3_asSort_41 : decode cX3_asSort 41 = .ok (.lcmp, 1) := dk_148 (dk_at dksX3_asSort_1 17 rfl rfl)
theorem dX3_asSort_42 : decode cX3_asSort 42 = .ok (.ifCond .eq 7, 3) := dk_153 0 7 (dk_at dksX3_asSort_1 18 rfl rfl)
theorem dX3_asSort_45 : decode cX3_asSort 45 = .ok (.lconst 1, 1) := dk_10 (dk_at dksX3_asSort_1 21 rfl rfl)
theorem dX3_asSort_46 : decode cX3_asSort 46 = .ok (.goto 8, 3) := dk_167 0 8 (dk_at dksX3_asSort_2 0 rfl rfl)
theorem dX3_asSort_49 : decode cX3_asSort 49 = .ok (.lconst 0, 1) := dk_9 (dk_at dksX3_asSort_2 3 rfl rfl)
theorem dX3_asSort_50 : decode cX3_asSort 50 = .ok (.goto 4, 3) := dk_167 0 4 (dk_at dksX3_asSort_2 4 rfl rfl)
theorem dX3_asSort_53 : decode cX3_asSort 53 = .ok (.lload_n 1, 1) := dk_31 (dk_at dksX3_asSort_2 7 rfl rfl)
theorem dX3_asSort_54 : decode cX3_asSort 54 = .ok (.lreturn, 1) := dk_173 (dk_at dksX3_asSort_2 8 rfl rfl)
abbrev cX3_element : ByteArray := prog_34_method_99_code
def yX3_element : MethodName := ⟨RX3, "element", "(II)J"⟩
def dkwX3_element_1 : List UInt8 := [96, 47, 173]
abbrev dktX3_element_1 : List UInt8 := dkwX3_element_1 ++ []
def dkwX3_element_0 : List UInt8 := [42, 27, 28, 182, 1, 222, 153, 0, 9, 20, 1, 231, 167, 0, 14, 42, 180, 0, 136, 16, 60, 27, 104, 28]
abbrev dktX3_element_0 : List UInt8 := dkwX3_element_0 ++ dktX3_element_1
theorem dksX3_element_0 : cX3_element.data.toList.drop 0 = dktX3_element_0 := by decide +kernel
theorem dksX3_element_1 : cX3_element.data.toList.drop 24 = dktX3_element_1 := dk_seg dksX3_element_0 24 rfl rfl
theorem dX3_element_0 : decode cX3_element 0 = .ok (.aload_n 0, 1) := dk_42 (dk_at dksX3_element_0 0 rfl rfl)
theorem dX3_element_1 : decode cX3_element 1 = .ok (.iload_n 1, 1) := dk_27 (dk_at dksX3_element_0 1 rfl rfl)
theorem dX3_element_2 : decode cX3_element 2 = .ok (.iload_n 2, 1) := dk_28 (dk_at dksX3_element_0 2 rfl rfl)
theorem dX3_element_3 : decode cX3_element 3 = .ok (.invokevirtual 478, 3) := dk_182 1 222 (dk_at dksX3_element_0 3 rfl rfl)
theorem dX3_element_6 : decode cX3_element 6 = .ok (.ifCond .eq 9, 3) := dk_153 0 9 (dk_at dksX3_element_0 6 rfl rfl)
theorem dX3_element_9 : decode cX3_element 9 = .ok (.ldc2_w 487, 3) := dk_20 1 231 (dk_at dksX3_element_0 9 rfl rfl)
theorem dX3_element_12 : decode cX3_element 12 = .ok (.goto 14, 3) := dk_167 0 14 (dk_at dksX3_element_0 12 rfl rfl)
theorem dX3_element_15 : decode cX3_element 15 = .ok (.aload_n 0, 1) := dk_42 (dk_at dksX3_element_0 15 rfl rfl)
theorem dX3_element_16 : decode cX3_element 16 = .ok (.getfield 136, 3) := dk_180 0 136 (dk_at dksX3_element_0 16 rfl rfl)
theorem dX3_element_19 : decode cX3_element 19 = .ok (.bipush 60, 2) := dk_16 60 (dk_at dksX3_element_0 19 rfl rfl)
theorem dX3_element_21 : decode cX3_element 21 = .ok (.iload_n 1, 1) := dk_27 (dk_at dksX3_element_0 21 rfl rfl)
theorem dX3_element_22 : decode cX3_element 22 = .ok (.imul, 1) := dk_104 (dk_at dksX3_element_0 22 rfl rfl)
theorem dX3_element_23 : decode cX3_element 23 = .ok (.iload_n 2, 1) := dk_28 (dk_at dksX3_element_0 23 rfl rfl)
theorem dX3_element_24 : decode cX3_element 24 = .ok (.iadd, 1) := dk_96 (dk_at dksX3_element_1 0 rfl rfl)
theorem dX3_element_25 : decode cX3_element 25 = .ok (.laload, 1) := dk_47 (dk_at dksX3_element_1 1 rfl rfl)
theorem dX3_element_26 : decode cX3_element 26 = .ok (.lreturn, 1) := dk_173 (dk_at dksX3_element_1 2 rfl rfl)
abbrev cX3_shift : ByteArray := prog_34_method_100_code
def yX3_shift : MethodName := ⟨RX3, "shift", "(IIIII)I"⟩
def dkwX3_shift_8 : List UInt8 := [167, 255, 224, 21, 5, 172]
abbrev dktX3_shift_8 : List UInt8 := dkwX3_shift_8 ++ []
def dkwX3_shift_7 : List UInt8 := [180, 0, 136, 16, 60, 29, 104, 21, 4, 96, 21, 6, 96, 42, 180, 0, 140, 21, 6, 47, 80, 132, 6, 1]
abbrev dktX3_shift_7 : List UInt8 := dkwX3_shift_7 ++ dktX3_shift_8
def dkwX3_shift_6 : List UInt8 := [21, 6, 96, 47, 80, 132, 6, 1, 167, 255, 225, 3, 54, 6, 21, 6, 21, 5, 162, 0, 31, 42]
abbrev dktX3_shift_6 : List UInt8 := dkwX3_shift_6 ++ dktX3_shift_7
def dkwX3_shift_5 : List UInt8 := [21, 6, 21, 5, 162, 0, 30, 42, 180, 0, 140, 21, 6, 42, 180, 0, 136, 16, 60, 27, 104, 28, 96]
abbrev dktX3_shift_5 : List UInt8 := dkwX3_shift_5 ++ dktX3_shift_6
def dkwX3_shift_4 : List UInt8 := [163, 0, 17, 21, 4, 42, 180, 0, 133, 29, 46, 21, 5, 100, 164, 0, 6, 16, 243, 172, 3, 54, 6]
abbrev dktX3_shift_4 : List UInt8 := dkwX3_shift_4 ++ dktX3_shift_5
def dkwX3_shift_3 : List UInt8 := [155, 0, 39, 28, 155, 0, 35, 21, 4, 155, 0, 30, 28, 42, 180, 0, 133, 27, 46, 21, 5, 100]
abbrev dktX3_shift_3 : List UInt8 := dkwX3_shift_3 ++ dktX3_shift_4
def dkwX3_shift_2 : List UInt8 := [161, 0, 18, 42, 180, 0, 130, 27, 46, 42, 180, 0, 130, 29, 46, 159, 0, 6, 16, 244, 172, 21, 5]
abbrev dktX3_shift_2 : List UInt8 := dkwX3_shift_2 ++ dktX3_shift_3
def dkwX3_shift_1 : List UInt8 := [155, 0, 12, 42, 180, 0, 130, 29, 46, 156, 0, 6, 16, 245, 172, 42, 180, 0, 130, 27, 46, 16, 50]
abbrev dktX3_shift_1 : List UInt8 := dkwX3_shift_1 ++ dktX3_shift_2
def dkwX3_shift_0 : List UInt8 := [27, 184, 0, 198, 153, 0, 10, 29, 184, 0, 198, 154, 0, 5, 2, 172, 42, 180, 0, 130, 27, 46]
abbrev dktX3_shift_0 : List UInt8 := dkwX3_shift_0 ++ dktX3_shift_1
theorem dksX3_shift_0 : cX3_shift.data.toList.drop 0 = dktX3_shift_0 := by decide +kernel
theorem dksX3_shift_1 : cX3_shift.data.toList.drop 22 = dktX3_shift_1 := dk_seg dksX3_shift_0 22 rfl rfl
theorem dksX3_shift_2 : cX3_shift.data.toList.drop 45 = dktX3_shift_2 := dk_seg dksX3_shift_1 23 rfl rfl
theorem dksX3_shift_3 : cX3_shift.data.toList.drop 68 = dktX3_shift_3 := dk_seg dksX3_shift_2 23 rfl rfl
theorem dksX3_shift_4 : cX3_shift.data.toList.drop 90 = dktX3_shift_4 := dk_seg dksX3_shift_3 22 rfl rfl
theorem dksX3_shift_5 : cX3_shift.data.toList.drop 113 = dktX3_shift_5 := dk_seg dksX3_shift_4 23 rfl rfl
theorem dksX3_shift_6 : cX3_shift.data.toList.drop 136 = dktX3_shift_6 := dk_seg dksX3_shift_5 23 rfl rfl
theorem dksX3_shift_7 : cX3_shift.data.toList.drop 158 = dktX3_shift_7 := dk_seg dksX3_shift_6 22 rfl rfl
theorem dksX3_shift_8 : cX3_shift.data.toList.drop 182 = dktX3_shift_8 := dk_seg dksX3_shift_7 24 rfl rfl
theorem dX3_shift_0 : decode cX3_shift 0 = .ok (.iload_n 1, 1) := dk_27 (dk_at dksX3_shift_0 0 rfl rfl)
theorem dX3_shift_1 : decode cX3_shift 1 = .ok (.invokestatic 198, 3) := dk_184 0 198 (dk_at dksX3_shift_0 1 rfl rfl)
theorem dX3_shift_4 : decode cX3_shift 4 = .ok (.ifCond .eq 10, 3) := dk_153 0 10 (dk_at dksX3_shift_0 4 rfl rfl)
theorem dX3_shift_7 : decode cX3_shift 7 = .ok (.iload_n 3, 1) := dk_29 (dk_at dksX3_shift_0 7 rfl rfl)
theorem dX3_shift_8 : decode cX3_shift 8 = .ok (.invokestatic 198, 3) := dk_184 0 198 (dk_at dksX3_shift_0 8 rfl rfl)
theorem dX3_shift_11 : decode cX3_shift 11 = .ok (.ifCond .ne 5, 3) := dk_154 0 5 (dk_at dksX3_shift_0 11 rfl rfl)
theorem dX3_shift_14 : decode cX3_shift 14 = .ok (.iconst (-1), 1) := dk_2 (dk_at dksX3_shift_0 14 rfl rfl)
theorem dX3_shift_15 : decode cX3_shift 15 = .ok (.ireturn, 1) := dk_172 (dk_at dksX3_shift_0 15 rfl rfl)
theorem dX3_shift_16 : decode cX3_shift 16 = .ok (.aload_n 0, 1) := dk_42 (dk_at dksX3_shift_0 16 rfl rfl)
theorem dX3_shift_17 : decode cX3_shift 17 = .ok (.getfield 130, 3) := dk_180 0 130 (dk_at dksX3_shift_0 17 rfl rfl)
theorem dX3_shift_20 : decode cX3_shift 20 = .ok (.iload_n 1, 1) := dk_27 (dk_at dksX3_shift_0 20 rfl rfl)
theorem dX3_shift_21 : decode cX3_shift 21 = .ok (.iaload, 1) := dk_46 (dk_at dksX3_shift_0 21 rfl rfl)
theorem dX3_shift_22 : decode cX3_shift 22 = .ok (.ifCond .lt 12, 3) := dk_155 0 12 (dk_at dksX3_shift_1 0 rfl rfl)
theorem dX3_shift_25 : decode cX3_shift 25 = .ok (.aload_n 0, 1) := dk_42 (dk_at dksX3_shift_1 3 rfl rfl)
theorem dX3_shift_26 : decode cX3_shift 26 = .ok (.getfield 130, 3) := dk_180 0 130 (dk_at dksX3_shift_1 4 rfl rfl)
theorem dX3_shift_29 : decode cX3_shift 29 = .ok (.iload_n 3, 1) := dk_29 (dk_at dksX3_shift_1 7 rfl rfl)
theorem dX3_shift_30 : decode cX3_shift 30 = .ok (.iaload, 1) := dk_46 (dk_at dksX3_shift_1 8 rfl rfl)
theorem dX3_shift_31 : decode cX3_shift 31 = .ok (.ifCond .ge 6, 3) := dk_156 0 6 (dk_at dksX3_shift_1 9 rfl rfl)
theorem dX3_shift_34 : decode cX3_shift 34 = .ok (.bipush (-11), 2) := dk_16 245 (dk_at dksX3_shift_1 12 rfl rfl)
theorem dX3_shift_36 : decode cX3_shift 36 = .ok (.ireturn, 1) := dk_172 (dk_at dksX3_shift_1 14 rfl rfl)
theorem dX3_shift_37 : decode cX3_shift 37 = .ok (.aload_n 0, 1) := dk_42 (dk_at dksX3_shift_1 15 rfl rfl)
theorem dX3_shift_38 : decode cX3_shift 38 = .ok (.getfield 130, 3) := dk_180 0 130 (dk_at dksX3_shift_1 16 rfl rfl)
theorem dX3_shift_41 : decode cX3_shift 41 = .ok (.iload_n 1, 1) := dk_27 (dk_at dksX3_shift_1 19 rfl rfl)
theorem dX3_shift_42 : decode cX3_shift 42 = .ok (.iaload, 1) := dk_46 (dk_at dksX3_shift_1 20 rfl rfl)
theorem dX3_shift_43 : decode cX3_shift 43 = .ok (.bipush 50, 2) := dk_16 50 (dk_at dksX3_shift_1 21 rfl rfl)
theorem dX3_shift_45 : decode cX3_shift 45 = .ok (.if_icmp .lt 18, 3) := dk_161 0 18 (dk_at dksX3_shift_2 0 rfl rfl)
theorem dX3_shift_48 : decode cX3_shift 48 = .ok (.aload_n 0, 1) := dk_42 (dk_at dksX3_shift_2 3 rfl rfl)
theorem dX3_shift_49 : decode cX3_shift 49 = .ok (.getfield 130, 3) := dk_180 0 130 (dk_at dksX3_shift_2 4 rfl rfl)
theorem dX3_shift_52 : decode cX3_shift 52 = .ok (.iload_n 1, 1) := dk_27 (dk_at dksX3_shift_2 7 rfl rfl)
theorem dX3_shift_53 : decode cX3_shift 53 = .ok (.iaload, 1) := dk_46 (dk_at dksX3_shift_2 8 rfl rfl)
theorem dX3_shift_54 : decode cX3_shift 54 = .ok (.aload_n 0, 1) := dk_42 (dk_at dksX3_shift_2 9 rfl rfl)
theorem dX3_shift_55 : decode cX3_shift 55 = .ok (.getfield 130, 3) := dk_180 0 130 (dk_at dksX3_shift_2 10 rfl rfl)
theorem dX3_shift_58 : decode cX3_shift 58 = .ok (.iload_n 3, 1) := dk_29 (dk_at dksX3_shift_2 13 rfl rfl)
theorem dX3_shift_59 : decode cX3_shift 59 = .ok (.iaload, 1) := dk_46 (dk_at dksX3_shift_2 14 rfl rfl)
theorem dX3_shift_60 : decode cX3_shift 60 = .ok (.if_icmp .eq 6, 3) := dk_159 0 6 (dk_at dksX3_shift_2 15 rfl rfl)
theorem dX3_shift_63 : decode cX3_shift 63 = .ok (.bipush (-12), 2) := dk_16 244 (dk_at dksX3_shift_2 18 rfl rfl)
theorem dX3_shift_65 : decode cX3_shift 65 = .ok (.ireturn, 1) := dk_172 (dk_at dksX3_shift_2 20 rfl rfl)
theorem dX3_shift_66 : decode cX3_shift 66 = .ok (.iload 5, 2) := dk_21 5 (dk_at dksX3_shift_2 21 rfl rfl)
theorem dX3_shift_68 : decode cX3_shift 68 = .ok (.ifCond .lt 39, 3) := dk_155 0 39 (dk_at dksX3_shift_3 0 rfl rfl)
theorem dX3_shift_71 : decode cX3_shift 71 = .ok (.iload_n 2, 1) := dk_28 (dk_at dksX3_shift_3 3 rfl rfl)
theorem dX3_shift_72 : decode cX3_shift 72 = .ok (.ifCond .lt 35, 3) := dk_155 0 35 (dk_at dksX3_shift_3 4 rfl rfl)
theorem dX3_shift_75 : decode cX3_shift 75 = .ok (.iload 4, 2) := dk_21 4 (dk_at dksX3_shift_3 7 rfl rfl)
theorem dX3_shift_77 : decode cX3_shift 77 = .ok (.ifCond .lt 30, 3) := dk_155 0 30 (dk_at dksX3_shift_3 9 rfl rfl)
theorem dX3_shift_80 : decode cX3_shift 80 = .ok (.iload_n 2, 1) := dk_28 (dk_at dksX3_shift_3 12 rfl rfl)
theorem dX3_shift_81 : decode cX3_shift 81 = .ok (.aload_n 0, 1) := dk_42 (dk_at dksX3_shift_3 13 rfl rfl)
theorem dX3_shift_82 : decode cX3_shift 82 = .ok (.getfield 133, 3) := dk_180 0 133 (dk_at dksX3_shift_3 14 rfl rfl)
theorem dX3_shift_85 : decode cX3_shift 85 = .ok (.iload_n 1, 1) := dk_27 (dk_at dksX3_shift_3 17 rfl rfl)
theorem dX3_shift_86 : decode cX3_shift 86 = .ok (.iaload, 1) := dk_46 (dk_at dksX3_shift_3 18 rfl rfl)
theorem dX3_shift_87 : decode cX3_shift 87 = .ok (.iload 5, 2) := dk_21 5 (dk_at dksX3_shift_3 19 rfl rfl)
theorem dX3_shift_89 : decode cX3_shift 89 = .ok (.isub, 1) := dk_100 (dk_at dksX3_shift_3 21 rfl rfl)
theorem dX3_shift_90 : decode cX3_shift 90 = .ok (.if_icmp .gt 17, 3) := dk_163 0 17 (dk_at dksX3_shift_4 0 rfl rfl)
theorem dX3_shift_93 : decode cX3_shift 93 = .ok (.iload 4, 2) := dk_21 4 (dk_at dksX3_shift_4 3 rfl rfl)
theorem dX3_shift_95 : decode cX3_shift 95 = .ok (.aload_n 0, 1) := dk_42 (dk_at dksX3_shift_4 5 rfl rfl)
theorem dX3_shift_96 : decode cX3_shift 96 = .ok (.getfield 133, 3) := dk_180 0 133 (dk_at dksX3_shift_4 6 rfl rfl)
theorem dX3_shift_99 : decode cX3_shift 99 = .ok (.iload_n 3, 1) := dk_29 (dk_at dksX3_shift_4 9 rfl rfl)
theorem dX3_shift_100 : decode cX3_shift 100 = .ok (.iaload, 1) := dk_46 (dk_at dksX3_shift_4 10 rfl rfl)
theorem dX3_shift_101 : decode cX3_shift 101 = .ok (.iload 5, 2) := dk_21 5 (dk_at dksX3_shift_4 11 rfl rfl)
theorem dX3_shift_103 : decode cX3_shift 103 = .ok (.isub, 1) := dk_100 (dk_at dksX3_shift_4 13 rfl rfl)
theorem dX3_shift_104 : decode cX3_shift 104 = .ok (.if_icmp .le 6, 3) := dk_164 0 6 (dk_at dksX3_shift_4 14 rfl rfl)
theorem dX3_shift_107 : decode cX3_shift 107 = .ok (.bipush (-13), 2) := dk_16 243 (dk_at dksX3_shift_4 17 rfl rfl)
theorem dX3_shift_109 : decode cX3_shift 109 = .ok (.ireturn, 1) := dk_172 (dk_at dksX3_shift_4 19 rfl rfl)
theorem dX3_shift_110 : decode cX3_shift 110 = .ok (.iconst 0, 1) := dk_3 (dk_at dksX3_shift_4 20 rfl rfl)
theorem dX3_shift_111 : decode cX3_shift 111 = .ok (.istore 6, 2) := dk_54 6 (dk_at dksX3_shift_4 21 rfl rfl)
theorem dX3_shift_113 : decode cX3_shift 113 = .ok (.iload 6, 2) := dk_21 6 (dk_at dksX3_shift_5 0 rfl rfl)
theorem dX3_shift_115 : decode cX3_shift 115 = .ok (.iload 5, 2) := dk_21 5 (dk_at dksX3_shift_5 2 rfl rfl)
theorem dX3_shift_117 : decode cX3_shift 117 = .ok (.if_icmp .ge 30, 3) := dk_162 0 30 (dk_at dksX3_shift_5 4 rfl rfl)
theorem dX3_shift_120 : decode cX3_shift 120 = .ok (.aload_n 0, 1) := dk_42 (dk_at dksX3_shift_5 7 rfl rfl)
theorem dX3_shift_121 : decode cX3_shift 121 = .ok (.getfield 140, 3) := dk_180 0 140 (dk_at dksX3_shift_5 8 rfl rfl)
theorem dX3_shift_124 : decode cX3_shift 124 = .ok (.iload 6, 2) := dk_21 6 (dk_at dksX3_shift_5 11 rfl rfl)
theorem dX3_shift_126 : decode cX3_shift 126 = .ok (.aload_n 0, 1) := dk_42 (dk_at dksX3_shift_5 13 rfl rfl)
theorem dX3_shift_127 : decode cX3_shift 127 = .ok (.getfield 136, 3) := dk_180 0 136 (dk_at dksX3_shift_5 14 rfl rfl)
theorem dX3_shift_130 : decode cX3_shift 130 = .ok (.bipush 60, 2) := dk_16 60 (dk_at dksX3_shift_5 17 rfl rfl)
theorem dX3_shift_132 : decode cX3_shift 132 = .ok (.iload_n 1, 1) := dk_27 (dk_at dksX3_shift_5 19 rfl rfl)
theorem dX3_shift_133 : decode cX3_shift 133 = .ok (.imul, 1) := dk_104 (dk_at dksX3_shift_5 20 rfl rfl)
theorem dX3_shift_134 : decode cX3_shift 134 = .ok (.iload_n 2, 1) := dk_28 (dk_at dksX3_shift_5 21 rfl rfl)
theorem dX3_shift_135 : decode cX3_shift 135 = .ok (.iadd, 1) := dk_96 (dk_at dksX3_shift_5 22 rfl rfl)
theorem dX3_shift_136 : decode cX3_shift 136 = .ok (.iload 6, 2) := dk_21 6 (dk_at dksX3_shift_6 0 rfl rfl)
theorem dX3_shift_138 : decode cX3_shift 138 = .ok (.iadd, 1) := dk_96 (dk_at dksX3_shift_6 2 rfl rfl)
theorem dX3_shift_139 : decode cX3_shift 139 = .ok (.laload, 1) := dk_47 (dk_at dksX3_shift_6 3 rfl rfl)
theorem dX3_shift_140 : decode cX3_shift 140 = .ok (.lastore, 1) := dk_80 (dk_at dksX3_shift_6 4 rfl rfl)
theorem dX3_shift_141 : decode cX3_shift 141 = .ok (.iinc 6 1, 3) := dk_132 6 1 (dk_at dksX3_shift_6 5 rfl rfl)
theorem dX3_shift_144 : decode cX3_shift 144 = .ok (.goto (-31), 3) := dk_167 255 225 (dk_at dksX3_shift_6 8 rfl rfl)
theorem dX3_shift_147 : decode cX3_shift 147 = .ok (.iconst 0, 1) := dk_3 (dk_at dksX3_shift_6 11 rfl rfl)
theorem dX3_shift_148 : decode cX3_shift 148 = .ok (.istore 6, 2) := dk_54 6 (dk_at dksX3_shift_6 12 rfl rfl)
theorem dX3_shift_150 : decode cX3_shift 150 = .ok (.iload 6, 2) := dk_21 6 (dk_at dksX3_shift_6 14 rfl rfl)
theorem dX3_shift_152 : decode cX3_shift 152 = .ok (.iload 5, 2) := dk_21 5 (dk_at dksX3_shift_6 16 rfl rfl)
theorem dX3_shift_154 : decode cX3_shift 154 = .ok (.if_icmp .ge 31, 3) := dk_162 0 31 (dk_at dksX3_shift_6 18 rfl rfl)
theorem dX3_shift_157 : decode cX3_shift 157 = .ok (.aload_n 0, 1) := dk_42 (dk_at dksX3_shift_6 21 rfl rfl)
theorem dX3_shift_158 : decode cX3_shift 158 = .ok (.getfield 136, 3) := dk_180 0 136 (dk_at dksX3_shift_7 0 rfl rfl)
theorem dX3_shift_161 : decode cX3_shift 161 = .ok (.bipush 60, 2) := dk_16 60 (dk_at dksX3_shift_7 3 rfl rfl)
theorem dX3_shift_163 : decode cX3_shift 163 = .ok (.iload_n 3, 1) := dk_29 (dk_at dksX3_shift_7 5 rfl rfl)
theorem dX3_shift_164 : decode cX3_shift 164 = .ok (.imul, 1) := dk_104 (dk_at dksX3_shift_7 6 rfl rfl)
theorem dX3_shift_165 : decode cX3_shift 165 = .ok (.iload 4, 2) := dk_21 4 (dk_at dksX3_shift_7 7 rfl rfl)
theorem dX3_shift_167 : decode cX3_shift 167 = .ok (.iadd, 1) := dk_96 (dk_at dksX3_shift_7 9 rfl rfl)
theorem dX3_shift_168 : decode cX3_shift 168 = .ok (.iload 6, 2) := dk_21 6 (dk_at dksX3_shift_7 10 rfl rfl)
theorem dX3_shift_170 : decode cX3_shift 170 = .ok (.iadd, 1) := dk_96 (dk_at dksX3_shift_7 12 rfl rfl)
theorem dX3_shift_171 : decode cX3_shift 171 = .ok (.aload_n 0, 1) := dk_42 (dk_at dksX3_shift_7 13 rfl rfl)
theorem dX3_shift_172 : decode cX3_shift 172 = .ok (.getfield 140, 3) := dk_180 0 140 (dk_at dksX3_shift_7 14 rfl rfl)
theorem dX3_shift_175 : decode cX3_shift 175 = .ok (.iload 6, 2) := dk_21 6 (dk_at dksX3_shift_7 17 rfl rfl)
theorem dX3_shift_177 : decode cX3_shift 177 = .ok (.laload, 1) := dk_47 (dk_at dksX3_shift_7 19 rfl rfl)
theorem dX3_shift_178 : decode cX3_shift 178 = .ok (.lastore, 1) := dk_80 (dk_at dksX3_shift_7 20 rfl rfl)
theorem dX3_shift_179 : decode cX3_shift 179 = .ok (.iinc 6 1, 3) := dk_132 6 1 (dk_at dksX3_shift_7 21 rfl rfl)
theorem dX3_shift_182 : decode cX3_shift 182 = .ok (.goto (-32), 3) := dk_167 255 224 (dk_at dksX3_shift_8 0 rfl rfl)
theorem dX3_shift_185 : decode cX3_shift 185 = .ok (.iload 5, 2) := dk_21 5 (dk_at dksX3_shift_8 3 rfl rfl)
theorem dX3_shift_187 : decode cX3_shift 187 = .ok (.ireturn, 1) := dk_172 (dk_at dksX3_shift_8 5 rfl rfl)
abbrev cX3_taken : ByteArray := prog_34_method_101_code
def yX3_taken : MethodName := ⟨RX3, "taken", "(II)I"⟩
def dkwX3_taken_4 : List UInt8 := [167, 0, 5, 16, 244, 172]
abbrev dktX3_taken_4 : List UInt8 := dkwX3_taken_4 ++ []
def dkwX3_taken_3 : List UInt8 := [184, 1, 236, 62, 167, 255, 242, 29, 28, 160, 0, 16, 42, 42, 180, 0, 130, 27, 46, 182, 1, 233]
abbrev dktX3_taken_3 : List UInt8 := dkwX3_taken_3 ++ dktX3_taken_4
def dkwX3_taken_2 : List UInt8 := [172, 42, 42, 180, 0, 130, 27, 46, 182, 1, 233, 62, 29, 28, 159, 0, 15, 29, 158, 0, 11, 29]
abbrev dktX3_taken_2 : List UInt8 := dkwX3_taken_2 ++ dktX3_taken_3
def dkwX3_taken_1 : List UInt8 := [180, 0, 130, 27, 46, 156, 0, 6, 16, 245, 172, 42, 180, 0, 130, 27, 46, 16, 50, 161, 0, 6, 16, 244]
abbrev dktX3_taken_1 : List UInt8 := dkwX3_taken_1 ++ dktX3_taken_2
def dkwX3_taken_0 : List UInt8 := [27, 184, 0, 198, 153, 0, 15, 28, 133, 9, 20, 1, 191, 184, 0, 162, 154, 0, 5, 2, 172, 42]
abbrev dktX3_taken_0 : List UInt8 := dkwX3_taken_0 ++ dktX3_taken_1
theorem dksX3_taken_0 : cX3_taken.data.toList.drop 0 = dktX3_taken_0 := by decide +kernel
theorem dksX3_taken_1 : cX3_taken.data.toList.drop 22 = dktX3_taken_1 := dk_seg dksX3_taken_0 22 rfl rfl
theorem dksX3_taken_2 : cX3_taken.data.toList.drop 46 = dktX3_taken_2 := dk_seg dksX3_taken_1 24 rfl rfl
theorem dksX3_taken_3 : cX3_taken.data.toList.drop 68 = dktX3_taken_3 := dk_seg dksX3_taken_2 22 rfl rfl
theorem dksX3_taken_4 : cX3_taken.data.toList.drop 90 = dktX3_taken_4 := dk_seg dksX3_taken_3 22 rfl rfl
theorem dX3_taken_0 : decode cX3_taken 0 = .ok (.iload_n 1, 1) := dk_27 (dk_at dksX3_taken_0 0 rfl rfl)
theorem dX3_taken_1 : decode cX3_taken 1 = .ok (.invokestatic 198, 3) := dk_184 0 198 (dk_at dksX3_taken_0 1 rfl rfl)
theorem dX3_taken_4 : decode cX3_taken 4 = .ok (.ifCond .eq 15, 3) := dk_153 0 15 (dk_at dksX3_taken_0 4 rfl rfl)
theorem dX3_taken_7 : decode cX3_taken 7 = .ok (.iload_n 2, 1) := dk_28 (dk_at dksX3_taken_0 7 rfl rfl)
theorem dX3_taken_8 : decode cX3_taken 8 = .ok (.i2l, 1) := dk_133 (dk_at dksX3_taken_0 8 rfl rfl)
theorem dX3_taken_9 : decode cX3_taken 9 = .ok (.lconst 0, 1) := dk_9 (dk_at dksX3_taken_0 9 rfl rfl)
theorem dX3_taken_10 : decode cX3_taken 10 = .ok (.ldc2_w 447, 3) := dk_20 1 191 (dk_at dksX3_taken_0 10 rfl rfl)
theorem dX3_taken_13 : decode cX3_taken 13 = .ok (.invokestatic 162, 3) := dk_184 0 162 (dk_at dksX3_taken_0 13 rfl rfl)
theorem dX3_taken_16 : decode cX3_taken 16 = .ok (.ifCond .ne 5, 3) := dk_154 0 5 (dk_at dksX3_taken_0 16 rfl rfl)
theorem dX3_taken_19 : decode cX3_taken 19 = .ok (.iconst (-1), 1) := dk_2 (dk_at dksX3_taken_0 19 rfl rfl)
theorem dX3_taken_20 : decode cX3_taken 20 = .ok (.ireturn, 1) := dk_172 (dk_at dksX3_taken_0 20 rfl rfl)
theorem dX3_taken_21 : decode cX3_taken 21 = .ok (.aload_n 0, 1) := dk_42 (dk_at dksX3_taken_0 21 rfl rfl)
theorem dX3_taken_22 : decode cX3_taken 22 = .ok (.getfield 130, 3) := dk_180 0 130 (dk_at dksX3_taken_1 0 rfl rfl)
theorem dX3_taken_25 : decode cX3_taken 25 = .ok (.iload_n 1, 1) := dk_27 (dk_at dksX3_taken_1 3 rfl rfl)
theorem dX3_taken_26 : decode cX3_taken 26 = .ok (.iaload, 1) := dk_46 (dk_at dksX3_taken_1 4 rfl rfl)
theorem dX3_taken_27 : decode cX3_taken 27 = .ok (.ifCond .ge 6, 3) := dk_156 0 6 (dk_at dksX3_taken_1 5 rfl rfl)
theorem dX3_taken_30 : decode cX3_taken 30 = .ok (.bipush (-11), 2) := dk_16 245 (dk_at dksX3_taken_1 8 rfl rfl)
theorem dX3_taken_32 : decode cX3_taken 32 = .ok (.ireturn, 1) := dk_172 (dk_at dksX3_taken_1 10 rfl rfl)
theorem dX3_taken_33 : decode cX3_taken 33 = .ok (.aload_n 0, 1) := dk_42 (dk_at dksX3_taken_1 11 rfl rfl)
theorem dX3_taken_34 : decode cX3_taken 34 = .ok (.getfield 130, 3) := dk_180 0 130 (dk_at dksX3_taken_1 12 rfl rfl)
theorem dX3_taken_37 : decode cX3_taken 37 = .ok (.iload_n 1, 1) := dk_27 (dk_at dksX3_taken_1 15 rfl rfl)
theorem dX3_taken_38 : decode cX3_taken 38 = .ok (.iaload, 1) := dk_46 (dk_at dksX3_taken_1 16 rfl rfl)
theorem dX3_taken_39 : decode cX3_taken 39 = .ok (.bipush 50, 2) := dk_16 50 (dk_at dksX3_taken_1 17 rfl rfl)
theorem dX3_taken_41 : decode cX3_taken 41 = .ok (.if_icmp .lt 6, 3) := dk_161 0 6 (dk_at dksX3_taken_1 19 rfl rfl)
theorem dX3_taken_44 : decode cX3_taken 44 = .ok (.bipush (-12), 2) := dk_16 244 (dk_at dksX3_taken_1 22 rfl rfl)
theorem dX3_taken_46 : decode cX3_taken 46 = .ok (.ireturn, 1) := dk_172 (dk_at dksX3_taken_2 0 rfl rfl)
theorem dX3_taken_47 : decode cX3_taken 47 = .ok (.aload_n 0, 1) := dk_42 (dk_at dksX3_taken_2 1 rfl rfl)
theorem dX3_taken_48 : decode cX3_taken 48 = .ok (.aload_n 0, 1) := dk_42 (dk_at dksX3_taken_2 2 rfl rfl)
theorem dX3_taken_49 : decode cX3_taken 49 = .ok (.getfield 130, 3) := dk_180 0 130 (dk_at dksX3_taken_2 3 rfl rfl)
theorem dX3_taken_52 : decode cX3_taken 52 = .ok (.iload_n 1, 1) := dk_27 (dk_at dksX3_taken_2 6 rfl rfl)
theorem dX3_taken_53 : decode cX3_taken 53 = .ok (.iaload, 1) := dk_46 (dk_at dksX3_taken_2 7 rfl rfl)
theorem dX3_taken_54 : decode cX3_taken 54 = .ok (.invokevirtual 489, 3) := dk_182 1 233 (dk_at dksX3_taken_2 8 rfl rfl)
theorem dX3_taken_57 : decode cX3_taken 57 = .ok (.istore_n 3, 1) := dk_62 (dk_at dksX3_taken_2 11 rfl rfl)
theorem dX3_taken_58 : decode cX3_taken 58 = .ok (.iload_n 3, 1) := dk_29 (dk_at dksX3_taken_2 12 rfl rfl)
theorem dX3_taken_59 : decode cX3_taken 59 = .ok (.iload_n 2, 1) := dk_28 (dk_at dksX3_taken_2 13 rfl rfl)
theorem dX3_taken_60 : decode cX3_taken 60 = .ok (.if_icmp .eq 15, 3) := dk_159 0 15 (dk_at dksX3_taken_2 14 rfl rfl)
theorem dX3_taken_63 : decode cX3_taken 63 = .ok (.iload_n 3, 1) := dk_29 (dk_at dksX3_taken_2 17 rfl rfl)
theorem dX3_taken_64 : decode cX3_taken 64 = .ok (.ifCond .le 11, 3) := dk_158 0 11 (dk_at dksX3_taken_2 18 rfl rfl)
theorem dX3_taken_67 : decode cX3_taken 67 = .ok (.iload_n 3, 1) := dk_29 (dk_at dksX3_taken_2 21 rfl rfl)
theorem dX3_taken_68 : decode cX3_taken 68 = .ok (.invokestatic 492, 3) := dk_184 1 236 (dk_at dksX3_taken_3 0 rfl rfl)
theorem dX3_taken_71 : decode cX3_taken 71 = .ok (.istore_n 3, 1) := dk_62 (dk_at dksX3_taken_3 3 rfl rfl)
theorem dX3_taken_72 : decode cX3_taken 72 = .ok (.goto (-14), 3) := dk_167 255 242 (dk_at dksX3_taken_3 4 rfl rfl)
theorem dX3_taken_75 : decode cX3_taken 75 = .ok (.iload_n 3, 1) := dk_29 (dk_at dksX3_taken_3 7 rfl rfl)
theorem dX3_taken_76 : decode cX3_taken 76 = .ok (.iload_n 2, 1) := dk_28 (dk_at dksX3_taken_3 8 rfl rfl)
theorem dX3_taken_77 : decode cX3_taken 77 = .ok (.if_icmp .ne 16, 3) := dk_160 0 16 (dk_at dksX3_taken_3 9 rfl rfl)
theorem dX3_taken_80 : decode cX3_taken 80 = .ok (.aload_n 0, 1) := dk_42 (dk_at dksX3_taken_3 12 rfl rfl)
theorem dX3_taken_81 : decode cX3_taken 81 = .ok (.aload_n 0, 1) := dk_42 (dk_at dksX3_taken_3 13 rfl rfl)
theorem dX3_taken_82 : decode cX3_taken 82 = .ok (.getfield 130, 3) := dk_180 0 130 (dk_at dksX3_taken_3 14 rfl rfl)
theorem dX3_taken_85 : decode cX3_taken 85 = .ok (.iload_n 1, 1) := dk_27 (dk_at dksX3_taken_3 17 rfl rfl)
theorem dX3_taken_86 : decode cX3_taken 86 = .ok (.iaload, 1) := dk_46 (dk_at dksX3_taken_3 18 rfl rfl)
theorem dX3_taken_87 : decode cX3_taken 87 = .ok (.invokevirtual 489, 3) := dk_182 1 233 (dk_at dksX3_taken_3 19 rfl rfl)
theorem dX3_taken_90 : decode cX3_taken 90 = .ok (.goto 5, 3) := dk_167 0 5 (dk_at dksX3_taken_4 0 rfl rfl)
theorem dX3_taken_93 : decode cX3_taken 93 = .ok (.bipush (-12), 2) := dk_16 244 (dk_at dksX3_taken_4 3 rfl rfl)
theorem dX3_taken_95 : decode cX3_taken 95 = .ok (.ireturn, 1) := dk_172 (dk_at dksX3_taken_4 5 rfl rfl)
abbrev cX3_kindOf : ByteArray := prog_34_method_83_code
def yX3_kindOf : MethodName := ⟨RX3, "kindOf", "(I)I"⟩
def dkwX3_kindOf_0 : List UInt8 := [42, 180, 0, 124, 27, 46, 172]
abbrev dktX3_kindOf_0 : List UInt8 := dkwX3_kindOf_0 ++ []
theorem dksX3_kindOf_0 : cX3_kindOf.data.toList.drop 0 = dktX3_kindOf_0 := by decide +kernel
theorem dX3_kindOf_0 : decode cX3_kindOf 0 = .ok (.aload_n 0, 1) := dk_42 (dk_at dksX3_kindOf_0 0 rfl rfl)
theorem dX3_kindOf_1 : decode cX3_kindOf 1 = .ok (.getfield 124, 3) := dk_180 0 124 (dk_at dksX3_kindOf_0 1 rfl rfl)
theorem dX3_kindOf_4 : decode cX3_kindOf 4 = .ok (.iload_n 1, 1) := dk_27 (dk_at dksX3_kindOf_0 4 rfl rfl)
theorem dX3_kindOf_5 : decode cX3_kindOf 5 = .ok (.iaload, 1) := dk_46 (dk_at dksX3_kindOf_0 5 rfl rfl)
theorem dX3_kindOf_6 : decode cX3_kindOf 6 = .ok (.ireturn, 1) := dk_172 (dk_at dksX3_kindOf_0 6 rfl rfl)
abbrev cX3_above : ByteArray := prog_34_method_85_code
def yX3_above : MethodName := ⟨RX3, "above", "(I)I"⟩
def dkwX3_above_1 : List UInt8 := [7, 167, 0, 4, 3, 172]
abbrev dktX3_above_1 : List UInt8 := dkwX3_above_1 ++ []
def dkwX3_above_0 : List UInt8 := [26, 6, 160, 0, 7, 5, 167, 0, 23, 26, 8, 160, 0, 7, 6, 167, 0, 14, 26, 16, 7, 160, 0, 7]
abbrev dktX3_above_0 : List UInt8 := dkwX3_above_0 ++ dktX3_above_1
theorem dksX3_above_0 : cX3_above.data.toList.drop 0 = dktX3_above_0 := by decide +kernel
theorem dksX3_above_1 : cX3_above.data.toList.drop 24 = dktX3_above_1 := dk_seg dksX3_above_0 24 rfl rfl
theorem dX3_above_0 : decode cX3_above 0 = .ok (.iload_n 0, 1) := dk_26 (dk_at dksX3_above_0 0 rfl rfl)
theorem dX3_above_1 : decode cX3_above 1 = .ok (.iconst 3, 1) := dk_6 (dk_at dksX3_above_0 1 rfl rfl)
theorem dX3_above_2 : decode cX3_above 2 = .ok (.if_icmp .ne 7, 3) := dk_160 0 7 (dk_at dksX3_above_0 2 rfl rfl)
theorem dX3_above_5 : decode cX3_above 5 = .ok (.iconst 2, 1) := dk_5 (dk_at dksX3_above_0 5 rfl rfl)
theorem dX3_above_6 : decode cX3_above 6 = .ok (.goto 23, 3) := dk_167 0 23 (dk_at dksX3_above_0 6 rfl rfl)
theorem dX3_above_9 : decode cX3_above 9 = .ok (.iload_n 0, 1) := dk_26 (dk_at dksX3_above_0 9 rfl rfl)
theorem dX3_above_10 : decode cX3_above 10 = .ok (.iconst 5, 1) := dk_8 (dk_at dksX3_above_0 10 rfl rfl)
theorem dX3_above_11 : decode cX3_above 11 = .ok (.if_icmp .ne 7, 3) := dk_160 0 7 (dk_at dksX3_above_0 11 rfl rfl)
theorem dX3_above_14 : decode cX3_above 14 = .ok (.iconst 3, 1) := dk_6 (dk_at dksX3_above_0 14 rfl rfl)
theorem dX3_above_15 : decode cX3_above 15 = .ok (.goto 14, 3) := dk_167 0 14 (dk_at dksX3_above_0 15 rfl rfl)
theorem dX3_above_18 : decode cX3_above 18 = .ok (.iload_n 0, 1) := dk_26 (dk_at dksX3_above_0 18 rfl rfl)
theorem dX3_above_19 : decode cX3_above 19 = .ok (.bipush 7, 2) := dk_16 7 (dk_at dksX3_above_0 19 rfl rfl)
theorem dX3_above_21 : decode cX3_above 21 = .ok (.if_icmp .ne 7, 3) := dk_160 0 7 (dk_at dksX3_above_0 21 rfl rfl)
theorem dX3_above_24 : decode cX3_above 24 = .ok (.iconst 4, 1) := dk_7 (dk_at dksX3_above_1 0 rfl rfl)
theorem dX3_above_25 : decode cX3_above 25 = .ok (.goto 4, 3) := dk_167 0 4 (dk_at dksX3_above_1 1 rfl rfl)
theorem dX3_above_28 : decode cX3_above 28 = .ok (.iconst 0, 1) := dk_3 (dk_at dksX3_above_1 4 rfl rfl)
theorem dX3_above_29 : decode cX3_above 29 = .ok (.ireturn, 1) := dk_172 (dk_at dksX3_above_1 5 rfl rfl)
abbrev cX3_count : ByteArray := prog_34_method_102_code
def yX3_count : MethodName := ⟨RX3, "count", "(I)I"⟩
def dkwX3_count_3 : List UInt8 := [172, 42, 180, 1, 188, 172, 42, 180, 1, 193, 172, 2, 172]
abbrev dktX3_count_3 : List UInt8 := dkwX3_count_3 ++ []
def dkwX3_count_2 : List UInt8 := [42, 180, 0, 159, 172, 42, 180, 0, 166, 172, 42, 180, 0, 169, 172, 42, 180, 0, 227, 172, 42, 180, 0, 153]
abbrev dktX3_count_2 : List UInt8 := dkwX3_count_2 ++ dktX3_count_3
def dkwX3_count_1 : List UInt8 := [170, 0, 0, 0, 0, 0, 78, 0, 0, 0, 0, 0, 0, 0, 6, 0, 0, 0, 43, 0, 0, 0, 48, 0, 0, 0, 53, 0, 0, 0, 58, 0, 0, 0, 63, 0, 0, 0, 68, 0, 0, 0, 73]
abbrev dktX3_count_1 : List UInt8 := dkwX3_count_1 ++ dktX3_count_2
def dkwX3_count_0 : List UInt8 := [27]
abbrev dktX3_count_0 : List UInt8 := dkwX3_count_0 ++ dktX3_count_1
theorem dksX3_count_0 : cX3_count.data.toList.drop 0 = dktX3_count_0 := by decide +kernel
theorem dksX3_count_1 : cX3_count.data.toList.drop 1 = dktX3_count_1 := dk_seg dksX3_count_0 1 rfl rfl
theorem dksX3_count_2 : cX3_count.data.toList.drop 44 = dktX3_count_2 := dk_seg dksX3_count_1 43 rfl rfl
theorem dksX3_count_3 : cX3_count.data.toList.drop 68 = dktX3_count_3 := dk_seg dksX3_count_2 24 rfl rfl
theorem dX3_count_0 : decode cX3_count 0 = .ok (.iload_n 1, 1) := dk_27 (dk_at dksX3_count_0 0 rfl rfl)
theorem dX3_count_1 : decode cX3_count 1 = .ok (.tableswitch 78 0 6 #[43, 48, 53, 58, 63, 68, 73], 43) := by decide +kernel
theorem dX3_count_44 : decode cX3_count 44 = .ok (.aload_n 0, 1) := dk_42 (dk_at dksX3_count_2 0 rfl rfl)
theorem dX3_count_45 : decode cX3_count 45 = .ok (.getfield 159, 3) := dk_180 0 159 (dk_at dksX3_count_2 1 rfl rfl)
theorem dX3_count_48 : decode cX3_count 48 = .ok (.ireturn, 1) := dk_172 (dk_at dksX3_count_2 4 rfl rfl)
theorem dX3_count_49 : decode cX3_count 49 = .ok (.aload_n 0, 1) := dk_42 (dk_at dksX3_count_2 5 rfl rfl)
theorem dX3_count_50 : decode cX3_count 50 = .ok (.getfield 166, 3) := dk_180 0 166 (dk_at dksX3_count_2 6 rfl rfl)
theorem dX3_count_53 : decode cX3_count 53 = .ok (.ireturn, 1) := dk_172 (dk_at dksX3_count_2 9 rfl rfl)
theorem dX3_count_54 : decode cX3_count 54 = .ok (.aload_n 0, 1) := dk_42 (dk_at dksX3_count_2 10 rfl rfl)
theorem dX3_count_55 : decode cX3_count 55 = .ok (.getfield 169, 3) := dk_180 0 169 (dk_at dksX3_count_2 11 rfl rfl)
theorem dX3_count_58 : decode cX3_count 58 = .ok (.ireturn, 1) := dk_172 (dk_at dksX3_count_2 14 rfl rfl)
theorem dX3_count_59 : decode cX3_count 59 = .ok (.aload_n 0, 1) := dk_42 (dk_at dksX3_count_2 15 rfl rfl)
theorem dX3_count_60 : decode cX3_count 60 = .ok (.getfield 227, 3) := dk_180 0 227 (dk_at dksX3_count_2 16 rfl rfl)
theorem dX3_count_63 : decode cX3_count 63 = .ok (.ireturn, 1) := dk_172 (dk_at dksX3_count_2 19 rfl rfl)
theorem dX3_count_64 : decode cX3_count 64 = .ok (.aload_n 0, 1) := dk_42 (dk_at dksX3_count_2 20 rfl rfl)
theorem dX3_count_65 : decode cX3_count 65 = .ok (.getfield 153, 3) := dk_180 0 153 (dk_at dksX3_count_2 21 rfl rfl)
theorem dX3_count_68 : decode cX3_count 68 = .ok (.ireturn, 1) := dk_172 (dk_at dksX3_count_3 0 rfl rfl)
theorem dX3_count_69 : decode cX3_count 69 = .ok (.aload_n 0, 1) := dk_42 (dk_at dksX3_count_3 1 rfl rfl)
theorem dX3_count_70 : decode cX3_count 70 = .ok (.getfield 444, 3) := dk_180 1 188 (dk_at dksX3_count_3 2 rfl rfl)
theorem dX3_count_73 : decode cX3_count 73 = .ok (.ireturn, 1) := dk_172 (dk_at dksX3_count_3 5 rfl rfl)
theorem dX3_count_74 : decode cX3_count 74 = .ok (.aload_n 0, 1) := dk_42 (dk_at dksX3_count_3 6 rfl rfl)
theorem dX3_count_75 : decode cX3_count 75 = .ok (.getfield 449, 3) := dk_180 1 193 (dk_at dksX3_count_3 7 rfl rfl)
theorem dX3_count_78 : decode cX3_count 78 = .ok (.ireturn, 1) := dk_172 (dk_at dksX3_count_3 10 rfl rfl)
theorem dX3_count_79 : decode cX3_count 79 = .ok (.iconst (-1), 1) := dk_2 (dk_at dksX3_count_3 11 rfl rfl)
theorem dX3_count_80 : decode cX3_count 80 = .ok (.ireturn, 1) := dk_172 (dk_at dksX3_count_3 12 rfl rfl)
