set_option maxRecDepth 100000
abbrev cX3_takes : ByteArray := prog_34_method_24_code
def yX3_takes : MethodName := ⟨RX3, "takes", "(I)Z"⟩
def dkwX3_takes_1 : List UInt8 := [181, 0, 230, 4, 172]
abbrev dktX3_takes_1 : List UInt8 := dkwX3_takes_1 ++ []
def dkwX3_takes_0 : List UInt8 := [42, 180, 0, 239, 156, 0, 11, 42, 182, 0, 242, 27, 159, 0, 5, 3, 172, 42, 89, 180, 0, 230, 4, 96]
abbrev dktX3_takes_0 : List UInt8 := dkwX3_takes_0 ++ dktX3_takes_1
theorem dksX3_takes_0 : cX3_takes.data.toList.drop 0 = dktX3_takes_0 := by decide +kernel
theorem dksX3_takes_1 : cX3_takes.data.toList.drop 24 = dktX3_takes_1 := dk_seg dksX3_takes_0 24 rfl rfl
theorem dX3_takes_0 : decode cX3_takes 0 = .ok (.aload_n 0, 1) := dk_42 (dk_at dksX3_takes_0 0 rfl rfl)
theorem dX3_takes_1 : decode cX3_takes 1 = .ok (.getfield 239, 3) := dk_180 0 239 (dk_at dksX3_takes_0 1 rfl rfl)
theorem dX3_takes_4 : decode cX3_takes 4 = .ok (.ifCond .ge 11, 3) := dk_156 0 11 (dk_at dksX3_takes_0 4 rfl rfl)
theorem dX3_takes_7 : decode cX3_takes 7 = .ok (.aload_n 0, 1) := dk_42 (dk_at dksX3_takes_0 7 rfl rfl)
theorem dX3_takes_8 : decode cX3_takes 8 = .ok (.invokevirtual 242, 3) := dk_182 0 242 (dk_at dksX3_takes_0 8 rfl rfl)
theorem dX3_takes_11 : decode cX3_takes 11 = .ok (.iload_n 1, 1) := dk_27 (dk_at dksX3_takes_0 11 rfl rfl)
theorem dX3_takes_12 : decode cX3_takes 12 = .ok (.if_icmp .eq 5, 3) := dk_159 0 5 (dk_at dksX3_takes_0 12 rfl rfl)
theorem dX3_takes_15 : decode cX3_takes 15 = .ok (.iconst 0, 1) := dk_3 (dk_at dksX3_takes_0 15 rfl rfl)
theorem dX3_takes_16 : decode cX3_takes 16 = .ok (.ireturn, 1) := dk_172 (dk_at dksX3_takes_0 16 rfl rfl)
theorem dX3_takes_17 : decode cX3_takes 17 = .ok (.aload_n 0, 1) := dk_42 (dk_at dksX3_takes_0 17 rfl rfl)
theorem dX3_takes_18 : decode cX3_takes 18 = .ok (.dup, 1) := dk_89 (dk_at dksX3_takes_0 18 rfl rfl)
theorem dX3_takes_19 : decode cX3_takes 19 = .ok (.getfield 230, 3) := dk_180 0 230 (dk_at dksX3_takes_0 19 rfl rfl)
theorem dX3_takes_22 : decode cX3_takes 22 = .ok (.iconst 1, 1) := dk_4 (dk_at dksX3_takes_0 22 rfl rfl)
theorem dX3_takes_23 : decode cX3_takes 23 = .ok (.iadd, 1) := dk_96 (dk_at dksX3_takes_0 23 rfl rfl)
theorem dX3_takes_24 : decode cX3_takes 24 = .ok (.putfield 230, 3) := dk_181 0 230 (dk_at dksX3_takes_1 0 rfl rfl)
theorem dX3_takes_27 : decode cX3_takes 27 = .ok (.iconst 1, 1) := dk_4 (dk_at dksX3_takes_1 3 rfl rfl)
theorem dX3_takes_28 : decode cX3_takes 28 = .ok (.ireturn, 1) := dk_172 (dk_at dksX3_takes_1 4 rfl rfl)
abbrev cX3_nameOf : ByteArray := prog_34_method_30_code
def yX3_nameOf : MethodName := ⟨RX3, "nameOf", "(I)I"⟩
def dkwX3_nameOf_2 : List UInt8 := [3, 172, 4, 172, 5, 172, 6, 172, 7, 172, 8, 172, 16, 6, 172, 16, 7, 172, 2, 172]
abbrev dktX3_nameOf_2 : List UInt8 := dkwX3_nameOf_2 ++ []
def dkwX3_nameOf_1 : List UInt8 := [170, 0, 0, 0, 0, 0, 105, 0, 0, 0, 101, 0, 0, 0, 118, 0, 0, 0, 91, 0, 0, 0, 105, 0, 0, 0, 105, 0, 0, 0, 105, 0, 0, 0, 105, 0, 0, 0, 105, 0, 0, 0, 105, 0, 0, 0, 102, 0, 0, 0, 105, 0, 0, 0, 93, 0, 0, 0, 105, 0, 0, 0, 99, 0, 0, 0, 105, 0, 0, 0, 87, 0, 0, 0, 95, 0, 0, 0, 97, 0, 0, 0, 105, 0, 0, 0, 89]
abbrev dktX3_nameOf_1 : List UInt8 := dkwX3_nameOf_1 ++ dktX3_nameOf_2
def dkwX3_nameOf_0 : List UInt8 := [26]
abbrev dktX3_nameOf_0 : List UInt8 := dkwX3_nameOf_0 ++ dktX3_nameOf_1
theorem dksX3_nameOf_0 : cX3_nameOf.data.toList.drop 0 = dktX3_nameOf_0 := by decide +kernel
theorem dksX3_nameOf_1 : cX3_nameOf.data.toList.drop 1 = dktX3_nameOf_1 := dk_seg dksX3_nameOf_0 1 rfl rfl
theorem dksX3_nameOf_2 : cX3_nameOf.data.toList.drop 88 = dktX3_nameOf_2 := dk_seg dksX3_nameOf_1 87 rfl rfl
theorem dX3_nameOf_0 : decode cX3_nameOf 0 = .ok (.iload_n 0, 1) := dk_26 (dk_at dksX3_nameOf_0 0 rfl rfl)
theorem dX3_nameOf_1 : decode cX3_nameOf 1 = .ok (.tableswitch 105 101 118 #[91, 105, 105, 105, 105, 105, 105, 102, 105, 93, 105, 99, 105, 87, 95, 97, 105, 89], 87) := by decide +kernel
theorem dX3_nameOf_88 : decode cX3_nameOf 88 = .ok (.iconst 0, 1) := dk_3 (dk_at dksX3_nameOf_2 0 rfl rfl)
theorem dX3_nameOf_89 : decode cX3_nameOf 89 = .ok (.ireturn, 1) := dk_172 (dk_at dksX3_nameOf_2 1 rfl rfl)
theorem dX3_nameOf_90 : decode cX3_nameOf 90 = .ok (.iconst 1, 1) := dk_4 (dk_at dksX3_nameOf_2 2 rfl rfl)
theorem dX3_nameOf_91 : decode cX3_nameOf 91 = .ok (.ireturn, 1) := dk_172 (dk_at dksX3_nameOf_2 3 rfl rfl)
theorem dX3_nameOf_92 : decode cX3_nameOf 92 = .ok (.iconst 2, 1) := dk_5 (dk_at dksX3_nameOf_2 4 rfl rfl)
theorem dX3_nameOf_93 : decode cX3_nameOf 93 = .ok (.ireturn, 1) := dk_172 (dk_at dksX3_nameOf_2 5 rfl rfl)
theorem dX3_nameOf_94 : decode cX3_nameOf 94 = .ok (.iconst 3, 1) := dk_6 (dk_at dksX3_nameOf_2 6 rfl rfl)
theorem dX3_nameOf_95 : decode cX3_nameOf 95 = .ok (.ireturn, 1) := dk_172 (dk_at dksX3_nameOf_2 7 rfl rfl)
theorem dX3_nameOf_96 : decode cX3_nameOf 96 = .ok (.iconst 4, 1) := dk_7 (dk_at dksX3_nameOf_2 8 rfl rfl)
theorem dX3_nameOf_97 : decode cX3_nameOf 97 = .ok (.ireturn, 1) := dk_172 (dk_at dksX3_nameOf_2 9 rfl rfl)
theorem dX3_nameOf_98 : decode cX3_nameOf 98 = .ok (.iconst 5, 1) := dk_8 (dk_at dksX3_nameOf_2 10 rfl rfl)
theorem dX3_nameOf_99 : decode cX3_nameOf 99 = .ok (.ireturn, 1) := dk_172 (dk_at dksX3_nameOf_2 11 rfl rfl)
theorem dX3_nameOf_100 : decode cX3_nameOf 100 = .ok (.bipush 6, 2) := dk_16 6 (dk_at dksX3_nameOf_2 12 rfl rfl)
theorem dX3_nameOf_102 : decode cX3_nameOf 102 = .ok (.ireturn, 1) := dk_172 (dk_at dksX3_nameOf_2 14 rfl rfl)
theorem dX3_nameOf_103 : decode cX3_nameOf 103 = .ok (.bipush 7, 2) := dk_16 7 (dk_at dksX3_nameOf_2 15 rfl rfl)
theorem dX3_nameOf_105 : decode cX3_nameOf 105 = .ok (.ireturn, 1) := dk_172 (dk_at dksX3_nameOf_2 17 rfl rfl)
theorem dX3_nameOf_106 : decode cX3_nameOf 106 = .ok (.iconst (-1), 1) := dk_2 (dk_at dksX3_nameOf_2 18 rfl rfl)
theorem dX3_nameOf_107 : decode cX3_nameOf 107 = .ok (.ireturn, 1) := dk_172 (dk_at dksX3_nameOf_2 19 rfl rfl)
abbrev cX3_meet : ByteArray := prog_34_method_68_code
def yX3_meet : MethodName := ⟨RX3, "meet", "(I)I"⟩
def dkwX3_meet_8 : List UInt8 := [4, 28, 120, 167, 0, 4, 3, 128, 79, 132, 2, 1, 167, 255, 206, 42, 180, 0, 85, 3, 46, 172]
abbrev dktX3_meet_8 : List UInt8 := dkwX3_meet_8 ++ []
def dkwX3_meet_7 : List UInt8 := [182, 1, 142, 42, 180, 0, 85, 16, 9, 92, 46, 42, 182, 1, 105, 42, 180, 0, 85, 5, 46, 159, 0, 9]
abbrev dktX3_meet_7 : List UInt8 := dkwX3_meet_7 ++ dktX3_meet_8
def dkwX3_meet_6 : List UInt8 := [180, 0, 85, 16, 9, 3, 79, 3, 61, 28, 42, 180, 0, 159, 162, 0, 48, 42, 28, 181, 1, 30, 42]
abbrev dktX3_meet_6 : List UInt8 := dkwX3_meet_6 ++ dktX3_meet_7
def dkwX3_meet_5 : List UInt8 := [180, 0, 85, 16, 7, 42, 182, 1, 155, 79, 42, 180, 0, 85, 16, 8, 42, 182, 1, 158, 79, 42]
abbrev dktX3_meet_5 : List UInt8 := dkwX3_meet_5 ++ dktX3_meet_6
def dkwX3_meet_4 : List UInt8 := [180, 0, 85, 8, 42, 3, 182, 1, 151, 79, 42, 180, 0, 85, 16, 6, 42, 4, 182, 1, 151, 79, 42]
abbrev dktX3_meet_4 : List UInt8 := dkwX3_meet_4 ++ dktX3_meet_5
def dkwX3_meet_3 : List UInt8 := [6, 42, 182, 1, 148, 79, 42, 180, 0, 85, 7, 42, 182, 1, 105, 42, 182, 1, 108, 130, 79, 42]
abbrev dktX3_meet_3 : List UInt8 := dkwX3_meet_3 ++ dktX3_meet_4
def dkwX3_meet_2 : List UInt8 := [42, 180, 0, 85, 4, 42, 180, 1, 65, 79, 42, 180, 0, 85, 5, 42, 182, 1, 105, 79, 42, 180, 0, 85]
abbrev dktX3_meet_2 : List UInt8 := dkwX3_meet_2 ++ dktX3_meet_3
def dkwX3_meet_1 : List UInt8 := [154, 0, 6, 16, 251, 172, 42, 182, 1, 142, 42, 182, 1, 145, 42, 180, 0, 85, 3, 42, 180, 1, 33, 79]
abbrev dktX3_meet_1 : List UInt8 := dkwX3_meet_1 ++ dktX3_meet_2
def dkwX3_meet_0 : List UInt8 := [42, 182, 1, 132, 27, 153, 0, 13, 42, 27, 182, 1, 135, 154, 0, 5, 2, 172, 42, 182, 1, 138]
abbrev dktX3_meet_0 : List UInt8 := dkwX3_meet_0 ++ dktX3_meet_1
theorem dksX3_meet_0 : cX3_meet.data.toList.drop 0 = dktX3_meet_0 := by decide +kernel
theorem dksX3_meet_1 : cX3_meet.data.toList.drop 22 = dktX3_meet_1 := dk_seg dksX3_meet_0 22 rfl rfl
theorem dksX3_meet_2 : cX3_meet.data.toList.drop 46 = dktX3_meet_2 := dk_seg dksX3_meet_1 24 rfl rfl
theorem dksX3_meet_3 : cX3_meet.data.toList.drop 70 = dktX3_meet_3 := dk_seg dksX3_meet_2 24 rfl rfl
theorem dksX3_meet_4 : cX3_meet.data.toList.drop 92 = dktX3_meet_4 := dk_seg dksX3_meet_3 22 rfl rfl
theorem dksX3_meet_5 : cX3_meet.data.toList.drop 115 = dktX3_meet_5 := dk_seg dksX3_meet_4 23 rfl rfl
theorem dksX3_meet_6 : cX3_meet.data.toList.drop 137 = dktX3_meet_6 := dk_seg dksX3_meet_5 22 rfl rfl
theorem dksX3_meet_7 : cX3_meet.data.toList.drop 160 = dktX3_meet_7 := dk_seg dksX3_meet_6 23 rfl rfl
theorem dksX3_meet_8 : cX3_meet.data.toList.drop 184 = dktX3_meet_8 := dk_seg dksX3_meet_7 24 rfl rfl
theorem dX3_meet_0 : decode cX3_meet 0 = .ok (.aload_n 0, 1) := dk_42 (dk_at dksX3_meet_0 0 rfl rfl)
theorem dX3_meet_1 : decode cX3_meet 1 = .ok (.invokevirtual 388, 3) := dk_182 1 132 (dk_at dksX3_meet_0 1 rfl rfl)
theorem dX3_meet_4 : decode cX3_meet 4 = .ok (.iload_n 1, 1) := dk_27 (dk_at dksX3_meet_0 4 rfl rfl)
theorem dX3_meet_5 : decode cX3_meet 5 = .ok (.ifCond .eq 13, 3) := dk_153 0 13 (dk_at dksX3_meet_0 5 rfl rfl)
theorem dX3_meet_8 : decode cX3_meet 8 = .ok (.aload_n 0, 1) := dk_42 (dk_at dksX3_meet_0 8 rfl rfl)
theorem dX3_meet_9 : decode cX3_meet 9 = .ok (.iload_n 1, 1) := dk_27 (dk_at dksX3_meet_0 9 rfl rfl)
theorem dX3_meet_10 : decode cX3_meet 10 = .ok (.invokevirtual 391, 3) := dk_182 1 135 (dk_at dksX3_meet_0 10 rfl rfl)
theorem dX3_meet_13 : decode cX3_meet 13 = .ok (.ifCond .ne 5, 3) := dk_154 0 5 (dk_at dksX3_meet_0 13 rfl rfl)
theorem dX3_meet_16 : decode cX3_meet 16 = .ok (.iconst (-1), 1) := dk_2 (dk_at dksX3_meet_0 16 rfl rfl)
theorem dX3_meet_17 : decode cX3_meet 17 = .ok (.ireturn, 1) := dk_172 (dk_at dksX3_meet_0 17 rfl rfl)
theorem dX3_meet_18 : decode cX3_meet 18 = .ok (.aload_n 0, 1) := dk_42 (dk_at dksX3_meet_0 18 rfl rfl)
theorem dX3_meet_19 : decode cX3_meet 19 = .ok (.invokevirtual 394, 3) := dk_182 1 138 (dk_at dksX3_meet_0 19 rfl rfl)
theorem dX3_meet_22 : decode cX3_meet 22 = .ok (.ifCond .ne 6, 3) := dk_154 0 6 (dk_at dksX3_meet_1 0 rfl rfl)
theorem dX3_meet_25 : decode cX3_meet 25 = .ok (.bipush (-5), 2) := dk_16 251 (dk_at dksX3_meet_1 3 rfl rfl)
theorem dX3_meet_27 : decode cX3_meet 27 = .ok (.ireturn, 1) := dk_172 (dk_at dksX3_meet_1 5 rfl rfl)
theorem dX3_meet_28 : decode cX3_meet 28 = .ok (.aload_n 0, 1) := dk_42 (dk_at dksX3_meet_1 6 rfl rfl)
theorem dX3_meet_29 : decode cX3_meet 29 = .ok (.invokevirtual 398, 3) := dk_182 1 142 (dk_at dksX3_meet_1 7 rfl rfl)
theorem dX3_meet_32 : decode cX3_meet 32 = .ok (.aload_n 0, 1) := dk_42 (dk_at dksX3_meet_1 10 rfl rfl)
theorem dX3_meet_33 : decode cX3_meet 33 = .ok (.invokevirtual 401, 3) := dk_182 1 145 (dk_at dksX3_meet_1 11 rfl rfl)
theorem dX3_meet_36 : decode cX3_meet 36 = .ok (.aload_n 0, 1) := dk_42 (dk_at dksX3_meet_1 14 rfl rfl)
theorem dX3_meet_37 : decode cX3_meet 37 = .ok (.getfield 85, 3) := dk_180 0 85 (dk_at dksX3_meet_1 15 rfl rfl)
theorem dX3_meet_40 : decode cX3_meet 40 = .ok (.iconst 0, 1) := dk_3 (dk_at dksX3_meet_1 18 rfl rfl)
theorem dX3_meet_41 : decode cX3_meet 41 = .ok (.aload_n 0, 1) := dk_42 (dk_at dksX3_meet_1 19 rfl rfl)
theorem dX3_meet_42 : decode cX3_meet 42 = .ok (.getfield 289, 3) := dk_180 1 33 (dk_at dksX3_meet_1 20 rfl rfl)
theorem dX3_meet_45 : decode cX3_meet 45 = .ok (.iastore, 1) := dk_79 (dk_at dksX3_meet_1 23 rfl rfl)
theorem dX3_meet_46 : decode cX3_meet 46 = .ok (.aload_n 0, 1) := dk_42 (dk_at dksX3_meet_2 0 rfl rfl)
theorem dX3_meet_47 : decode cX3_meet 47 = .ok (.getfield 85, 3) := dk_180 0 85 (dk_at dksX3_meet_2 1 rfl rfl)
theorem dX3_meet_50 : decode cX3_meet 50 = .ok (.iconst 1, 1) := dk_4 (dk_at dksX3_meet_2 4 rfl rfl)
theorem dX3_meet_51 : decode cX3_meet 51 = .ok (.aload_n 0, 1) := dk_42 (dk_at dksX3_meet_2 5 rfl rfl)
theorem dX3_meet_52 : decode cX3_meet 52 = .ok (.getfield 321, 3) := dk_180 1 65 (dk_at dksX3_meet_2 6 rfl rfl)
theorem dX3_meet_55 : decode cX3_meet 55 = .ok (.iastore, 1) := dk_79 (dk_at dksX3_meet_2 9 rfl rfl)
theorem dX3_meet_56 : decode cX3_meet 56 = .ok (.aload_n 0, 1) := dk_42 (dk_at dksX3_meet_2 10 rfl rfl)
theorem dX3_meet_57 : decode cX3_meet 57 = .ok (.getfield 85, 3) := dk_180 0 85 (dk_at dksX3_meet_2 11 rfl rfl)
theorem dX3_meet_60 : decode cX3_meet 60 = .ok (.iconst 2, 1) := dk_5 (dk_at dksX3_meet_2 14 rfl rfl)
theorem dX3_meet_61 : decode cX3_meet 61 = .ok (.aload_n 0, 1) := dk_42 (dk_at dksX3_meet_2 15 rfl rfl)
theorem dX3_meet_62 : decode cX3_meet 62 = .ok (.invokevirtual 361, 3) := dk_182 1 105 (dk_at dksX3_meet_2 16 rfl rfl)
theorem dX3_meet_65 : decode cX3_meet 65 = .ok (.iastore, 1) := dk_79 (dk_at dksX3_meet_2 19 rfl rfl)
theorem dX3_meet_66 : decode cX3_meet 66 = .ok (.aload_n 0, 1) := dk_42 (dk_at dksX3_meet_2 20 rfl rfl)
theorem dX3_meet_67 : decode cX3_meet 67 = .ok (.getfield 85, 3) := dk_180 0 85 (dk_at dksX3_meet_2 21 rfl rfl)
theorem dX3_meet_70 : decode cX3_meet 70 = .ok (.iconst 3, 1) := dk_6 (dk_at dksX3_meet_3 0 rfl rfl)
theorem dX3_meet_71 : decode cX3_meet 71 = .ok (.aload_n 0, 1) := dk_42 (dk_at dksX3_meet_3 1 rfl rfl)
theorem dX3_meet_72 : decode cX3_meet 72 = .ok (.invokevirtual 404, 3) := dk_182 1 148 (dk_at dksX3_meet_3 2 rfl rfl)
theorem dX3_meet_75 : decode cX3_meet 75 = .ok (.iastore, 1) := dk_79 (dk_at dksX3_meet_3 5 rfl rfl)
theorem dX3_meet_76 : decode cX3_meet 76 = .ok (.aload_n 0, 1) := dk_42 (dk_at dksX3_meet_3 6 rfl rfl)
theorem dX3_meet_77 : decode cX3_meet 77 = .ok (.getfield 85, 3) := dk_180 0 85 (dk_at dksX3_meet_3 7 rfl rfl)
theorem dX3_meet_80 : decode cX3_meet 80 = .ok (.iconst 4, 1) := dk_7 (dk_at dksX3_meet_3 10 rfl rfl)
theorem dX3_meet_81 : decode cX3_meet 81 = .ok (.aload_n 0, 1) := dk_42 (dk_at dksX3_meet_3 11 rfl rfl)
theorem dX3_meet_82 : decode cX3_meet 82 = .ok (.invokevirtual 361, 3) := dk_182 1 105 (dk_at dksX3_meet_3 12 rfl rfl)
theorem dX3_meet_85 : decode cX3_meet 85 = .ok (.aload_n 0, 1) := dk_42 (dk_at dksX3_meet_3 15 rfl rfl)
theorem dX3_meet_86 : decode cX3_meet 86 = .ok (.invokevirtual 364, 3) := dk_182 1 108 (dk_at dksX3_meet_3 16 rfl rfl)
theorem dX3_meet_89 : decode cX3_meet 89 = .ok (.ixor, 1) := dk_130 (dk_at dksX3_meet_3 19 rfl rfl)
theorem dX3_meet_90 : decode cX3_meet 90 = .ok (.iastore, 1) := dk_79 (dk_at dksX3_meet_3 20 rfl rfl)
theorem dX3_meet_91 : decode cX3_meet 91 = .ok (.aload_n 0, 1) := dk_42 (dk_at dksX3_meet_3 21 rfl rfl)
theorem dX3_meet_92 : decode cX3_meet 92 = .ok (.getfield 85, 3) := dk_180 0 85 (dk_at dksX3_meet_4 0 rfl rfl)
theorem dX3_meet_95 : decode cX3_meet 95 = .ok (.iconst 5, 1) := dk_8 (dk_at dksX3_meet_4 3 rfl rfl)
theorem dX3_meet_96 : decode cX3_meet 96 = .ok (.aload_n 0, 1) := dk_42 (dk_at dksX3_meet_4 4 rfl rfl)
theorem dX3_meet_97 : decode cX3_meet 97 = .ok (.iconst 0, 1) := dk_3 (dk_at dksX3_meet_4 5 rfl rfl)
theorem dX3_meet_98 : decode cX3_meet 98 = .ok (.invokevirtual 407, 3) := dk_182 1 151 (dk_at dksX3_meet_4 6 rfl rfl)
theorem dX3_meet_101 : decode cX3_meet 101 = .ok (.iastore, 1) := dk_79 (dk_at dksX3_meet_4 9 rfl rfl)
theorem dX3_meet_102 : decode cX3_meet 102 = .ok (.aload_n 0, 1) := dk_42 (dk_at dksX3_meet_4 10 rfl rfl)
theorem dX3_meet_103 : decode cX3_meet 103 = .ok (.getfield 85, 3) := dk_180 0 85 (dk_at dksX3_meet_4 11 rfl rfl)
theorem dX3_meet_106 : decode cX3_meet 106 = .ok (.bipush 6, 2) := dk_16 6 (dk_at dksX3_meet_4 14 rfl rfl)
theorem dX3_meet_108 : decode cX3_meet 108 = .ok (.aload_n 0, 1) := dk_42 (dk_at dksX3_meet_4 16 rfl rfl)
theorem dX3_meet_109 : decode cX3_meet 109 = .ok (.iconst 1, 1) := dk_4 (dk_at dksX3_meet_4 17 rfl rfl)
theorem dX3_meet_110 : decode cX3_meet 110 = .ok (.invokevirtual 407, 3) := dk_182 1 151 (dk_at dksX3_meet_4 18 rfl rfl)
theorem dX3_meet_113 : decode cX3_meet 113 = .ok (.iastore, 1) := dk_79 (dk_at dksX3_meet_4 21 rfl rfl)
theorem dX3_meet_114 : decode cX3_meet 114 = .ok (.aload_n 0, 1) := dk_42 (dk_at dksX3_meet_4 22 rfl rfl)
theorem dX3_meet_115 : decode cX3_meet 115 = .ok (.getfield 85, 3) := dk_180 0 85 (dk_at dksX3_meet_5 0 rfl rfl)
theorem dX3_meet_118 : decode cX3_meet 118 = .ok (.bipush 7, 2) := dk_16 7 (dk_at dksX3_meet_5 3 rfl rfl)
theorem dX3_meet_120 : decode cX3_meet 120 = .ok (.aload_n 0, 1) := dk_42 (dk_at dksX3_meet_5 5 rfl rfl)
theorem dX3_meet_121 : decode cX3_meet 121 = .ok (.invokevirtual 411, 3) := dk_182 1 155 (dk_at dksX3_meet_5 6 rfl rfl)
theorem dX3_meet_124 : decode cX3_meet 124 = .ok (.iastore, 1) := dk_79 (dk_at dksX3_meet_5 9 rfl rfl)
theorem dX3_meet_125 : decode cX3_meet 125 = .ok (.aload_n 0, 1) := dk_42 (dk_at dksX3_meet_5 10 rfl rfl)
theorem dX3_meet_126 : decode cX3_meet 126 = .ok (.getfield 85, 3) := dk_180 0 85 (dk_at dksX3_meet_5 11 rfl rfl)
theorem dX3_meet_129 : decode cX3_meet 129 = .ok (.bipush 8, 2) := dk_16 8 (dk_at dksX3_meet_5 14 rfl rfl)
theorem dX3_meet_131 : decode cX3_meet 131 = .ok (.aload_n 0, 1) := dk_42 (dk_at dksX3_meet_5 16 rfl rfl)
theorem dX3_meet_132 : decode cX3_meet 132 = .ok (.invokevirtual 414, 3) := dk_182 1 158 (dk_at dksX3_meet_5 17 rfl rfl)
theorem dX3_meet_135 : decode cX3_meet 135 = .ok (.iastore, 1) := dk_79 (dk_at dksX3_meet_5 20 rfl rfl)
theorem dX3_meet_136 : decode cX3_meet 136 = .ok (.aload_n 0, 1) := dk_42 (dk_at dksX3_meet_5 21 rfl rfl)
theorem dX3_meet_137 : decode cX3_meet 137 = .ok (.getfield 85, 3) := dk_180 0 85 (dk_at dksX3_meet_6 0 rfl rfl)
theorem dX3_meet_140 : decode cX3_meet 140 = .ok (.bipush 9, 2) := dk_16 9 (dk_at dksX3_meet_6 3 rfl rfl)
theorem dX3_meet_142 : decode cX3_meet 142 = .ok (.iconst 0, 1) := dk_3 (dk_at dksX3_meet_6 5 rfl rfl)
theorem dX3_meet_143 : decode cX3_meet 143 = .ok (.iastore, 1) := dk_79 (dk_at dksX3_meet_6 6 rfl rfl)
theorem dX3_meet_144 : decode cX3_meet 144 = .ok (.iconst 0, 1) := dk_3 (dk_at dksX3_meet_6 7 rfl rfl)
theorem dX3_meet_145 : decode cX3_meet 145 = .ok (.istore_n 2, 1) := dk_61 (dk_at dksX3_meet_6 8 rfl rfl)
theorem dX3_meet_146 : decode cX3_meet 146 = .ok (.iload_n 2, 1) := dk_28 (dk_at dksX3_meet_6 9 rfl rfl)
theorem dX3_meet_147 : decode cX3_meet 147 = .ok (.aload_n 0, 1) := dk_42 (dk_at dksX3_meet_6 10 rfl rfl)
theorem dX3_meet_148 : decode cX3_meet 148 = .ok (.getfield 159, 3) := dk_180 0 159 (dk_at dksX3_meet_6 11 rfl rfl)
theorem dX3_meet_151 : decode cX3_meet 151 = .ok (.if_icmp .ge 48, 3) := dk_162 0 48 (dk_at dksX3_meet_6 14 rfl rfl)
theorem dX3_meet_154 : decode cX3_meet 154 = .ok (.aload_n 0, 1) := dk_42 (dk_at dksX3_meet_6 17 rfl rfl)
theorem dX3_meet_155 : decode cX3_meet 155 = .ok (.iload_n 2, 1) := dk_28 (dk_at dksX3_meet_6 18 rfl rfl)
theorem dX3_meet_156 : decode cX3_meet 156 = .ok (.putfield 286, 3) := dk_181 1 30 (dk_at dksX3_meet_6 19 rfl rfl)
theorem dX3_meet_159 : decode cX3_meet 159 = .ok (.aload_n 0, 1) := dk_42 (dk_at dksX3_meet_6 22 rfl rfl)
theorem dX3_meet_160 : decode cX3_meet 160 = .ok (.invokevirtual 398, 3) := dk_182 1 142 (dk_at dksX3_meet_7 0 rfl rfl)
theorem dX3_meet_163 : decode cX3_meet 163 = .ok (.aload_n 0, 1) := dk_42 (dk_at dksX3_meet_7 3 rfl rfl)
theorem dX3_meet_164 : decode cX3_meet 164 = .ok (.getfield 85, 3) := dk_180 0 85 (dk_at dksX3_meet_7 4 rfl rfl)
theorem dX3_meet_167 : decode cX3_meet 167 = .ok (.bipush 9, 2) := dk_16 9 (dk_at dksX3_meet_7 7 rfl rfl)
theorem dX3_meet_169 : decode cX3_meet 169 = .ok (.dup2, 1) := dk_92 (dk_at dksX3_meet_7 9 rfl rfl)
theorem dX3_meet_170 : decode cX3_meet 170 = .ok (.iaload, 1) := dk_46 (dk_at dksX3_meet_7 10 rfl rfl)
theorem dX3_meet_171 : decode cX3_meet 171 = .ok (.aload_n 0, 1) := dk_42 (dk_at dksX3_meet_7 11 rfl rfl)
theorem dX3_meet_172 : decode cX3_meet 172 = .ok (.invokevirtual 361, 3) := dk_182 1 105 (dk_at dksX3_meet_7 12 rfl rfl)
theorem dX3_meet_175 : decode cX3_meet 175 = .ok (.aload_n 0, 1) := dk_42 (dk_at dksX3_meet_7 15 rfl rfl)
theorem dX3_meet_176 : decode cX3_meet 176 = .ok (.getfield 85, 3) := dk_180 0 85 (dk_at dksX3_meet_7 16 rfl rfl)
theorem dX3_meet_179 : decode cX3_meet 179 = .ok (.iconst 2, 1) := dk_5 (dk_at dksX3_meet_7 19 rfl rfl)
theorem dX3_meet_180 : decode cX3_meet 180 = .ok (.iaload, 1) := dk_46 (dk_at dksX3_meet_7 20 rfl rfl)
theorem dX3_meet_181 : decode cX3_meet 181 = .ok (.if_icmp .eq 9, 3) := dk_159 0 9 (dk_at dksX3_meet_7 21 rfl rfl)
theorem dX3_meet_184 : decode cX3_meet 184 = .ok (.iconst 1, 1) := dk_4 (dk_at dksX3_meet_8 0 rfl rfl)
theorem dX3_meet_185 : decode cX3_meet 185 = .ok (.iload_n 2, 1) := dk_28 (dk_at dksX3_meet_8 1 rfl rfl)
theorem dX3_meet_186 : decode cX3_meet 186 = .ok (.ishl, 1) := dk_120 (dk_at dksX3_meet_8 2 rfl rfl)
theorem dX3_meet_187 : decode cX3_meet 187 = .ok (.goto 4, 3) := dk_167 0 4 (dk_at dksX3_meet_8 3 rfl rfl)
theorem dX3_meet_190 : decode cX3_meet 190 = .ok (.iconst 0, 1) := dk_3 (dk_at dksX3_meet_8 6 rfl rfl)
theorem dX3_meet_191 : decode cX3_meet 191 = .ok (.ior, 1) := dk_128 (dk_at dksX3_meet_8 7 rfl rfl)
theorem dX3_meet_192 : decode cX3_meet 192 = .ok (.iastore, 1) := dk_79 (dk_at dksX3_meet_8 8 rfl rfl)
theorem dX3_meet_193 : decode cX3_meet 193 = .ok (.iinc 2 1, 3) := dk_132 2 1 (dk_at dksX3_meet_8 9 rfl rfl)
theorem dX3_meet_196 : decode cX3_meet 196 = .ok (.goto (-50), 3) := dk_167 255 206 (dk_at dksX3_meet_8 12 rfl rfl)
theorem dX3_meet_199 : decode cX3_meet 199 = .ok (.aload_n 0, 1) := dk_42 (dk_at dksX3_meet_8 15 rfl rfl)
theorem dX3_meet_200 : decode cX3_meet 200 = .ok (.getfield 85, 3) := dk_180 0 85 (dk_at dksX3_meet_8 16 rfl rfl)
theorem dX3_meet_203 : decode cX3_meet 203 = .ok (.iconst 0, 1) := dk_3 (dk_at dksX3_meet_8 19 rfl rfl)
theorem dX3_meet_204 : decode cX3_meet 204 = .ok (.iaload, 1) := dk_46 (dk_at dksX3_meet_8 20 rfl rfl)
theorem dX3_meet_205 : decode cX3_meet 205 = .ok (.ireturn, 1) := dk_172 (dk_at dksX3_meet_8 21 rfl rfl)
abbrev cX3_plain : ByteArray := prog_34_method_34_code
def yX3_plain : MethodName := ⟨RX3, "plain", "()V"⟩
def dkwX3_plain_1 : List UInt8 := [42, 180, 0, 166, 162, 0, 16, 42, 180, 0, 61, 27, 27, 79, 132, 1, 1, 167, 255, 238, 177]
abbrev dktX3_plain_1 : List UInt8 := dkwX3_plain_1 ++ []
def dkwX3_plain_0 : List UInt8 := [42, 42, 180, 0, 205, 181, 1, 24, 42, 42, 180, 0, 147, 181, 1, 27, 42, 2, 181, 1, 30, 3, 60, 27]
abbrev dktX3_plain_0 : List UInt8 := dkwX3_plain_0 ++ dktX3_plain_1
theorem dksX3_plain_0 : cX3_plain.data.toList.drop 0 = dktX3_plain_0 := by decide +kernel
theorem dksX3_plain_1 : cX3_plain.data.toList.drop 24 = dktX3_plain_1 := dk_seg dksX3_plain_0 24 rfl rfl
theorem dX3_plain_0 : decode cX3_plain 0 = .ok (.aload_n 0, 1) := dk_42 (dk_at dksX3_plain_0 0 rfl rfl)
theorem dX3_plain_1 : decode cX3_plain 1 = .ok (.aload_n 0, 1) := dk_42 (dk_at dksX3_plain_0 1 rfl rfl)
theorem dX3_plain_2 : decode cX3_plain 2 = .ok (.getfield 205, 3) := dk_180 0 205 (dk_at dksX3_plain_0 2 rfl rfl)
theorem dX3_plain_5 : decode cX3_plain 5 = .ok (.putfield 280, 3) := dk_181 1 24 (dk_at dksX3_plain_0 5 rfl rfl)
theorem dX3_plain_8 : decode cX3_plain 8 = .ok (.aload_n 0, 1) := dk_42 (dk_at dksX3_plain_0 8 rfl rfl)
theorem dX3_plain_9 : decode cX3_plain 9 = .ok (.aload_n 0, 1) := dk_42 (dk_at dksX3_plain_0 9 rfl rfl)
theorem dX3_plain_10 : decode cX3_plain 10 = .ok (.getfield 147, 3) := dk_180 0 147 (dk_at dksX3_plain_0 10 rfl rfl)
theorem dX3_plain_13 : decode cX3_plain 13 = .ok (.putfield 283, 3) := dk_181 1 27 (dk_at dksX3_plain_0 13 rfl rfl)
theorem dX3_plain_16 : decode cX3_plain 16 = .ok (.aload_n 0, 1) := dk_42 (dk_at dksX3_plain_0 16 rfl rfl)
theorem dX3_plain_17 : decode cX3_plain 17 = .ok (.iconst (-1), 1) := dk_2 (dk_at dksX3_plain_0 17 rfl rfl)
theorem dX3_plain_18 : decode cX3_plain 18 = .ok (.putfield 286, 3) := dk_181 1 30 (dk_at dksX3_plain_0 18 rfl rfl)
theorem dX3_plain_21 : decode cX3_plain 21 = .ok (.iconst 0, 1) := dk_3 (dk_at dksX3_plain_0 21 rfl rfl)
theorem dX3_plain_22 : decode cX3_plain 22 = .ok (.istore_n 1, 1) := dk_60 (dk_at dksX3_plain_0 22 rfl rfl)
theorem dX3_plain_23 : decode cX3_plain 23 = .ok (.iload_n 1, 1) := dk_27 (dk_at dksX3_plain_0 23 rfl rfl)
theorem dX3_plain_24 : decode cX3_plain 24 = .ok (.aload_n 0, 1) := dk_42 (dk_at dksX3_plain_1 0 rfl rfl)
theorem dX3_plain_25 : decode cX3_plain 25 = .ok (.getfield 166, 3) := dk_180 0 166 (dk_at dksX3_plain_1 1 rfl rfl)
theorem dX3_plain_28 : decode cX3_plain 28 = .ok (.if_icmp .ge 16, 3) := dk_162 0 16 (dk_at dksX3_plain_1 4 rfl rfl)
theorem dX3_plain_31 : decode cX3_plain 31 = .ok (.aload_n 0, 1) := dk_42 (dk_at dksX3_plain_1 7 rfl rfl)
theorem dX3_plain_32 : decode cX3_plain 32 = .ok (.getfield 61, 3) := dk_180 0 61 (dk_at dksX3_plain_1 8 rfl rfl)
theorem dX3_plain_35 : decode cX3_plain 35 = .ok (.iload_n 1, 1) := dk_27 (dk_at dksX3_plain_1 11 rfl rfl)
theorem dX3_plain_36 : decode cX3_plain 36 = .ok (.iload_n 1, 1) := dk_27 (dk_at dksX3_plain_1 12 rfl rfl)
theorem dX3_plain_37 : decode cX3_plain 37 = .ok (.iastore, 1) := dk_79 (dk_at dksX3_plain_1 13 rfl rfl)
theorem dX3_plain_38 : decode cX3_plain 38 = .ok (.iinc 1 1, 3) := dk_132 1 1 (dk_at dksX3_plain_1 14 rfl rfl)
theorem dX3_plain_41 : decode cX3_plain 41 = .ok (.goto (-18), 3) := dk_167 255 238 (dk_at dksX3_plain_1 17 rfl rfl)
theorem dX3_plain_44 : decode cX3_plain 44 = .ok (.return_, 1) := dk_177 (dk_at dksX3_plain_1 20 rfl rfl)
abbrev cX3_isOrder : ByteArray := prog_34_method_66_code
def yX3_isOrder : MethodName := ⟨RX3, "isOrder", "(I)Z"⟩
def dkwX3_isOrder_3 : List UInt8 := [108, 62, 132, 4, 255, 167, 255, 194, 29, 154, 0, 7, 4, 167, 0, 4, 3, 172]
abbrev dktX3_isOrder_3 : List UInt8 := dkwX3_isOrder_3 ++ []
def dkwX3_isOrder_2 : List UInt8 := [160, 0, 5, 3, 172, 28, 4, 21, 5, 120, 128, 61, 42, 180, 0, 61, 21, 4, 21, 5, 79, 29, 16, 10]
abbrev dktX3_isOrder_2 : List UInt8 := dkwX3_isOrder_2 ++ dktX3_isOrder_3
def dkwX3_isOrder_1 : List UInt8 := [54, 5, 29, 158, 0, 22, 42, 21, 5, 182, 0, 219, 153, 0, 13, 28, 21, 5, 122, 4, 126, 4]
abbrev dktX3_isOrder_1 : List UInt8 := dkwX3_isOrder_1 ++ dktX3_isOrder_2
def dkwX3_isOrder_0 : List UInt8 := [3, 61, 27, 62, 42, 180, 0, 166, 4, 100, 54, 4, 21, 4, 155, 0, 63, 29, 16, 10, 112, 4, 100]
abbrev dktX3_isOrder_0 : List UInt8 := dkwX3_isOrder_0 ++ dktX3_isOrder_1
theorem dksX3_isOrder_0 : cX3_isOrder.data.toList.drop 0 = dktX3_isOrder_0 := by decide +kernel
theorem dksX3_isOrder_1 : cX3_isOrder.data.toList.drop 23 = dktX3_isOrder_1 := dk_seg dksX3_isOrder_0 23 rfl rfl
theorem dksX3_isOrder_2 : cX3_isOrder.data.toList.drop 45 = dktX3_isOrder_2 := dk_seg dksX3_isOrder_1 22 rfl rfl
theorem dksX3_isOrder_3 : cX3_isOrder.data.toList.drop 69 = dktX3_isOrder_3 := dk_seg dksX3_isOrder_2 24 rfl rfl
theorem dX3_isOrder_0 : decode cX3_isOrder 0 = .ok (.iconst 0, 1) := dk_3 (dk_at dksX3_isOrder_0 0 rfl rfl)
theorem dX3_isOrder_1 : decode cX3_isOrder 1 = .ok (.istore_n 2, 1) := dk_61 (dk_at dksX3_isOrder_0 1 rfl rfl)
theorem dX3_isOrder_2 : decode cX3_isOrder 2 = .ok (.iload_n 1, 1) := dk_27 (dk_at dksX3_isOrder_0 2 rfl rfl)
theorem dX3_isOrder_3 : decode cX3_isOrder 3 = .ok (.istore_n 3, 1) := dk_62 (dk_at dksX3_isOrder_0 3 rfl rfl)
theorem dX3_isOrder_4 : decode cX3_isOrder 4 = .ok (.aload_n 0, 1) := dk_42 (dk_at dksX3_isOrder_0 4 rfl rfl)
theorem dX3_isOrder_5 : decode cX3_isOrder 5 = .ok (.getfield 166, 3) := dk_180 0 166 (dk_at dksX3_isOrder_0 5 rfl rfl)
theorem dX3_isOrder_8 : decode cX3_isOrder 8 = .ok (.iconst 1, 1) := dk_4 (dk_at dksX3_isOrder_0 8 rfl rfl)
theorem dX3_isOrder_9 : decode cX3_isOrder 9 = .ok (.isub, 1) := dk_100 (dk_at dksX3_isOrder_0 9 rfl rfl)
theorem dX3_isOrder_10 : decode cX3_isOrder 10 = .ok (.istore 4, 2) := dk_54 4 (dk_at dksX3_isOrder_0 10 rfl rfl)
theorem dX3_isOrder_12 : decode cX3_isOrder 12 = .ok (.iload 4, 2) := dk_21 4 (dk_at dksX3_isOrder_0 12 rfl rfl)
theorem dX3_isOrder_14 : decode cX3_isOrder 14 = .ok (.ifCond .lt 63, 3) := dk_155 0 63 (dk_at dksX3_isOrder_0 14 rfl rfl)
theorem dX3_isOrder_17 : decode cX3_isOrder 17 = .ok (.iload_n 3, 1) := dk_29 (dk_at dksX3_isOrder_0 17 rfl rfl)
theorem dX3_isOrder_18 : decode cX3_isOrder 18 = .ok (.bipush 10, 2) := dk_16 10 (dk_at dksX3_isOrder_0 18 rfl rfl)
theorem dX3_isOrder_20 : decode cX3_isOrder 20 = .ok (.irem, 1) := dk_112 (dk_at dksX3_isOrder_0 20 rfl rfl)
theorem dX3_isOrder_21 : decode cX3_isOrder 21 = .ok (.iconst 1, 1) := dk_4 (dk_at dksX3_isOrder_0 21 rfl rfl)
theorem dX3_isOrder_22 : decode cX3_isOrder 22 = .ok (.isub, 1) := dk_100 (dk_at dksX3_isOrder_0 22 rfl rfl)
theorem dX3_isOrder_23 : decode cX3_isOrder 23 = .ok (.istore 5, 2) := dk_54 5 (dk_at dksX3_isOrder_1 0 rfl rfl)
theorem dX3_isOrder_25 : decode cX3_isOrder 25 = .ok (.iload_n 3, 1) := dk_29 (dk_at dksX3_isOrder_1 2 rfl rfl)
theorem dX3_isOrder_26 : decode cX3_isOrder 26 = .ok (.ifCond .le 22, 3) := dk_158 0 22 (dk_at dksX3_isOrder_1 3 rfl rfl)
theorem dX3_isOrder_29 : decode cX3_isOrder 29 = .ok (.aload_n 0, 1) := dk_42 (dk_at dksX3_isOrder_1 6 rfl rfl)
theorem dX3_isOrder_30 : decode cX3_isOrder 30 = .ok (.iload 5, 2) := dk_21 5 (dk_at dksX3_isOrder_1 7 rfl rfl)
theorem dX3_isOrder_32 : decode cX3_isOrder 32 = .ok (.invokevirtual 219, 3) := dk_182 0 219 (dk_at dksX3_isOrder_1 9 rfl rfl)
theorem dX3_isOrder_35 : decode cX3_isOrder 35 = .ok (.ifCond .eq 13, 3) := dk_153 0 13 (dk_at dksX3_isOrder_1 12 rfl rfl)
theorem dX3_isOrder_38 : decode cX3_isOrder 38 = .ok (.iload_n 2, 1) := dk_28 (dk_at dksX3_isOrder_1 15 rfl rfl)
theorem dX3_isOrder_39 : decode cX3_isOrder 39 = .ok (.iload 5, 2) := dk_21 5 (dk_at dksX3_isOrder_1 16 rfl rfl)
theorem dX3_isOrder_41 : decode cX3_isOrder 41 = .ok (.ishr, 1) := dk_122 (dk_at dksX3_isOrder_1 18 rfl rfl)
theorem dX3_isOrder_42 : decode cX3_isOrder 42 = .ok (.iconst 1, 1) := dk_4 (dk_at dksX3_isOrder_1 19 rfl rfl)
theorem dX3_isOrder_43 : decode cX3_isOrder 43 = .ok (.iand, 1) := dk_126 (dk_at dksX3_isOrder_1 20 rfl rfl)
theorem dX3_isOrder_44 : decode cX3_isOrder 44 = .ok (.iconst 1, 1) := dk_4 (dk_at dksX3_isOrder_1 21 rfl rfl)
theorem dX3_isOrder_45 : decode cX3_isOrder 45 = .ok (.if_icmp .ne 5, 3) := dk_160 0 5 (dk_at dksX3_isOrder_2 0 rfl rfl)
theorem dX3_isOrder_48 : decode cX3_isOrder 48 = .ok (.iconst 0, 1) := dk_3 (dk_at dksX3_isOrder_2 3 rfl rfl)
theorem dX3_isOrder_49 : decode cX3_isOrder 49 = .ok (.ireturn, 1) := dk_172 (dk_at dksX3_isOrder_2 4 rfl rfl)
theorem dX3_isOrder_50 : decode cX3_isOrder 50 = .ok (.iload_n 2, 1) := dk_28 (dk_at dksX3_isOrder_2 5 rfl rfl)
theorem dX3_isOrder_51 : decode cX3_isOrder 51 = .ok (.iconst 1, 1) := dk_4 (dk_at dksX3_isOrder_2 6 rfl rfl)
theorem dX3_isOrder_52 : decode cX3_isOrder 52 = .ok (.iload 5, 2) := dk_21 5 (dk_at dksX3_isOrder_2 7 rfl rfl)
theorem dX3_isOrder_54 : decode cX3_isOrder 54 = .ok (.ishl, 1) := dk_120 (dk_at dksX3_isOrder_2 9 rfl rfl)
theorem dX3_isOrder_55 : decode cX3_isOrder 55 = .ok (.ior, 1) := dk_128 (dk_at dksX3_isOrder_2 10 rfl rfl)
theorem dX3_isOrder_56 : decode cX3_isOrder 56 = .ok (.istore_n 2, 1) := dk_61 (dk_at dksX3_isOrder_2 11 rfl rfl)
theorem dX3_isOrder_57 : decode cX3_isOrder 57 = .ok (.aload_n 0, 1) := dk_42 (dk_at dksX3_isOrder_2 12 rfl rfl)
theorem dX3_isOrder_58 : decode cX3_isOrder 58 = .ok (.getfield 61, 3) := dk_180 0 61 (dk_at dksX3_isOrder_2 13 rfl rfl)
theorem dX3_isOrder_61 : decode cX3_isOrder 61 = .ok (.iload 4, 2) := dk_21 4 (dk_at dksX3_isOrder_2 16 rfl rfl)
theorem dX3_isOrder_63 : decode cX3_isOrder 63 = .ok (.iload 5, 2) := dk_21 5 (dk_at dksX3_isOrder_2 18 rfl rfl)
theorem dX3_isOrder_65 : decode cX3_isOrder 65 = .ok (.iastore, 1) := dk_79 (dk_at dksX3_isOrder_2 20 rfl rfl)
theorem dX3_isOrder_66 : decode cX3_isOrder 66 = .ok (.iload_n 3, 1) := dk_29 (dk_at dksX3_isOrder_2 21 rfl rfl)
theorem dX3_isOrder_67 : decode cX3_isOrder 67 = .ok (.bipush 10, 2) := dk_16 10 (dk_at dksX3_isOrder_2 22 rfl rfl)
theorem dX3_isOrder_69 : decode cX3_isOrder 69 = .ok (.idiv, 1) := dk_108 (dk_at dksX3_isOrder_3 0 rfl rfl)
theorem dX3_isOrder_70 : decode cX3_isOrder 70 = .ok (.istore_n 3, 1) := dk_62 (dk_at dksX3_isOrder_3 1 rfl rfl)
theorem dX3_isOrder_71 : decode cX3_isOrder 71 = .ok (.iinc 4 (-1), 3) := dk_132 4 255 (dk_at dksX3_isOrder_3 2 rfl rfl)
theorem dX3_isOrder_74 : decode cX3_isOrder 74 = .ok (.goto (-62), 3) := dk_167 255 194 (dk_at dksX3_isOrder_3 5 rfl rfl)
theorem dX3_isOrder_77 : decode cX3_isOrder 77 = .ok (.iload_n 3, 1) := dk_29 (dk_at dksX3_isOrder_3 8 rfl rfl)
theorem dX3_isOrder_78 : decode cX3_isOrder 78 = .ok (.ifCond .ne 7, 3) := dk_154 0 7 (dk_at dksX3_isOrder_3 9 rfl rfl)
theorem dX3_isOrder_81 : decode cX3_isOrder 81 = .ok (.iconst 1, 1) := dk_4 (dk_at dksX3_isOrder_3 12 rfl rfl)
theorem dX3_isOrder_82 : decode cX3_isOrder 82 = .ok (.goto 4, 3) := dk_167 0 4 (dk_at dksX3_isOrder_3 13 rfl rfl)
theorem dX3_isOrder_85 : decode cX3_isOrder 85 = .ok (.iconst 0, 1) := dk_3 (dk_at dksX3_isOrder_3 16 rfl rfl)
theorem dX3_isOrder_86 : decode cX3_isOrder 86 = .ok (.ireturn, 1) := dk_172 (dk_at dksX3_isOrder_3 17 rfl rfl)
abbrev cX3_isTable : ByteArray := prog_34_method_67_code
def yX3_isTable : MethodName := ⟨RX3, "isTable", "()Z"⟩
def dkwX3_isTable_0 : List UInt8 := [42, 180, 0, 159, 158, 0, 14, 42, 180, 0, 166, 158, 0, 7, 4, 167, 0, 4, 3, 172]
abbrev dktX3_isTable_0 : List UInt8 := dkwX3_isTable_0 ++ []
theorem dksX3_isTable_0 : cX3_isTable.data.toList.drop 0 = dktX3_isTable_0 := by decide +kernel
theorem dX3_isTable_0 : decode cX3_isTable 0 = .ok (.aload_n 0, 1) := dk_42 (dk_at dksX3_isTable_0 0 rfl rfl)
theorem dX3_isTable_1 : decode cX3_isTable 1 = .ok (.getfield 159, 3) := dk_180 0 159 (dk_at dksX3_isTable_0 1 rfl rfl)
theorem dX3_isTable_4 : decode cX3_isTable 4 = .ok (.ifCond .le 14, 3) := dk_158 0 14 (dk_at dksX3_isTable_0 4 rfl rfl)
theorem dX3_isTable_7 : decode cX3_isTable 7 = .ok (.aload_n 0, 1) := dk_42 (dk_at dksX3_isTable_0 7 rfl rfl)
theorem dX3_isTable_8 : decode cX3_isTable 8 = .ok (.getfield 166, 3) := dk_180 0 166 (dk_at dksX3_isTable_0 8 rfl rfl)
theorem dX3_isTable_11 : decode cX3_isTable 11 = .ok (.ifCond .le 7, 3) := dk_158 0 7 (dk_at dksX3_isTable_0 11 rfl rfl)
theorem dX3_isTable_14 : decode cX3_isTable 14 = .ok (.iconst 1, 1) := dk_4 (dk_at dksX3_isTable_0 14 rfl rfl)
theorem dX3_isTable_15 : decode cX3_isTable 15 = .ok (.goto 4, 3) := dk_167 0 4 (dk_at dksX3_isTable_0 15 rfl rfl)
theorem dX3_isTable_18 : decode cX3_isTable 18 = .ok (.iconst 0, 1) := dk_3 (dk_at dksX3_isTable_0 18 rfl rfl)
theorem dX3_isTable_19 : decode cX3_isTable 19 = .ok (.ireturn, 1) := dk_172 (dk_at dksX3_isTable_0 19 rfl rfl)
abbrev cX3_meets : ByteArray := prog_34_method_52_code
def yX3_meets : MethodName := ⟨RX3, "meets", "()V"⟩
def dkwX3_meets_5 : List UInt8 := [132, 1, 1, 167, 255, 235, 177]
abbrev dktX3_meets_5 : List UInt8 := dkwX3_meets_5 ++ []
def dkwX3_meets_4 : List UInt8 := [167, 255, 238, 3, 60, 27, 42, 180, 0, 166, 162, 0, 19, 42, 42, 180, 0, 61, 27, 46, 182, 1, 96]
abbrev dktX3_meets_4 : List UInt8 := dkwX3_meets_4 ++ dktX3_meets_5
def dkwX3_meets_3 : List UInt8 := [167, 255, 229, 3, 60, 27, 42, 180, 0, 166, 162, 0, 16, 42, 180, 0, 58, 27, 3, 79, 132, 1, 1]
abbrev dktX3_meets_3 : List UInt8 := dkwX3_meets_3 ++ dktX3_meets_4
def dkwX3_meets_2 : List UInt8 := [162, 0, 25, 42, 180, 0, 52, 27, 16, 254, 79, 42, 180, 0, 55, 27, 16, 254, 79, 132, 1, 1]
abbrev dktX3_meets_2 : List UInt8 := dkwX3_meets_2 ++ dktX3_meets_3
def dkwX3_meets_1 : List UInt8 := [162, 0, 17, 42, 180, 0, 49, 27, 16, 254, 79, 132, 1, 1, 167, 255, 237, 3, 60, 27, 42, 180, 0, 169]
abbrev dktX3_meets_1 : List UInt8 := dkwX3_meets_1 ++ dktX3_meets_2
def dkwX3_meets_0 : List UInt8 := [42, 3, 181, 1, 33, 42, 3, 181, 1, 65, 42, 2, 181, 1, 49, 3, 60, 27, 42, 180, 0, 159]
abbrev dktX3_meets_0 : List UInt8 := dkwX3_meets_0 ++ dktX3_meets_1
theorem dksX3_meets_0 : cX3_meets.data.toList.drop 0 = dktX3_meets_0 := by decide +kernel
theorem dksX3_meets_1 : cX3_meets.data.toList.drop 22 = dktX3_meets_1 := dk_seg dksX3_meets_0 22 rfl rfl
theorem dksX3_meets_2 : cX3_meets.data.toList.drop 46 = dktX3_meets_2 := dk_seg dksX3_meets_1 24 rfl rfl
theorem dksX3_meets_3 : cX3_meets.data.toList.drop 68 = dktX3_meets_3 := dk_seg dksX3_meets_2 22 rfl rfl
theorem dksX3_meets_4 : cX3_meets.data.toList.drop 91 = dktX3_meets_4 := dk_seg dksX3_meets_3 23 rfl rfl
theorem dksX3_meets_5 : cX3_meets.data.toList.drop 114 = dktX3_meets_5 := dk_seg dksX3_meets_4 23 rfl rfl
theorem dX3_meets_0 : decode cX3_meets 0 = .ok (.aload_n 0, 1) := dk_42 (dk_at dksX3_meets_0 0 rfl rfl)
theorem dX3_meets_1 : decode cX3_meets 1 = .ok (.iconst 0, 1) := dk_3 (dk_at dksX3_meets_0 1 rfl rfl)
theorem dX3_meets_2 : decode cX3_meets 2 = .ok (.putfield 289, 3) := dk_181 1 33 (dk_at dksX3_meets_0 2 rfl rfl)
theorem dX3_meets_5 : decode cX3_meets 5 = .ok (.aload_n 0, 1) := dk_42 (dk_at dksX3_meets_0 5 rfl rfl)
theorem dX3_meets_6 : decode cX3_meets 6 = .ok (.iconst 0, 1) := dk_3 (dk_at dksX3_meets_0 6 rfl rfl)
theorem dX3_meets_7 : decode cX3_meets 7 = .ok (.putfield 321, 3) := dk_181 1 65 (dk_at dksX3_meets_0 7 rfl rfl)
theorem dX3_meets_10 : decode cX3_meets 10 = .ok (.aload_n 0, 1) := dk_42 (dk_at dksX3_meets_0 10 rfl rfl)
theorem dX3_meets_11 : decode cX3_meets 11 = .ok (.iconst (-1), 1) := dk_2 (dk_at dksX3_meets_0 11 rfl rfl)
theorem dX3_meets_12 : decode cX3_meets 12 = .ok (.putfield 305, 3) := dk_181 1 49 (dk_at dksX3_meets_0 12 rfl rfl)
theorem dX3_meets_15 : decode cX3_meets 15 = .ok (.iconst 0, 1) := dk_3 (dk_at dksX3_meets_0 15 rfl rfl)
theorem dX3_meets_16 : decode cX3_meets 16 = .ok (.istore_n 1, 1) := dk_60 (dk_at dksX3_meets_0 16 rfl rfl)
theorem dX3_meets_17 : decode cX3_meets 17 = .ok (.iload_n 1, 1) := dk_27 (dk_at dksX3_meets_0 17 rfl rfl)
theorem dX3_meets_18 : decode cX3_meets 18 = .ok (.aload_n 0, 1) := dk_42 (dk_at dksX3_meets_0 18 rfl rfl)
theorem dX3_meets_19 : decode cX3_meets 19 = .ok (.getfield 159, 3) := dk_180 0 159 (dk_at dksX3_meets_0 19 rfl rfl)
theorem dX3_meets_22 : decode cX3_meets 22 = .ok (.if_icmp .ge 17, 3) := dk_162 0 17 (dk_at dksX3_meets_1 0 rfl rfl)
theorem dX3_meets_25 : decode cX3_meets 25 = .ok (.aload_n 0, 1) := dk_42 (dk_at dksX3_meets_1 3 rfl rfl)
theorem dX3_meets_26 : decode cX3_meets 26 = .ok (.getfield 49, 3) := dk_180 0 49 (dk_at dksX3_meets_1 4 rfl rfl)
theorem dX3_meets_29 : decode cX3_meets 29 = .ok (.iload_n 1, 1) := dk_27 (dk_at dksX3_meets_1 7 rfl rfl)
theorem dX3_meets_30 : decode cX3_meets 30 = .ok (.bipush (-2), 2) := dk_16 254 (dk_at dksX3_meets_1 8 rfl rfl)
theorem dX3_meets_32 : decode cX3_meets 32 = .ok (.iastore, 1) := dk_79 (dk_at dksX3_meets_1 10 rfl rfl)
theorem dX3_meets_33 : decode cX3_meets 33 = .ok (.iinc 1 1, 3) := dk_132 1 1 (dk_at dksX3_meets_1 11 rfl rfl)
theorem dX3_meets_36 : decode cX3_meets 36 = .ok (.goto (-19), 3) := dk_167 255 237 (dk_at dksX3_meets_1 14 rfl rfl)
theorem dX3_meets_39 : decode cX3_meets 39 = .ok (.iconst 0, 1) := dk_3 (dk_at dksX3_meets_1 17 rfl rfl)
theorem dX3_meets_40 : decode cX3_meets 40 = .ok (.istore_n 1, 1) := dk_60 (dk_at dksX3_meets_1 18 rfl rfl)
theorem dX3_meets_41 : decode cX3_meets 41 = .ok (.iload_n 1, 1) := dk_27 (dk_at dksX3_meets_1 19 rfl rfl)
theorem dX3_meets_42 : decode cX3_meets 42 = .ok (.aload_n 0, 1) := dk_42 (dk_at dksX3_meets_1 20 rfl rfl)
theorem dX3_meets_43 : decode cX3_meets 43 = .ok (.getfield 169, 3) := dk_180 0 169 (dk_at dksX3_meets_1 21 rfl rfl)
theorem dX3_meets_46 : decode cX3_meets 46 = .ok (.if_icmp .ge 25, 3) := dk_162 0 25 (dk_at dksX3_meets_2 0 rfl rfl)
theorem dX3_meets_49 : decode cX3_meets 49 = .ok (.aload_n 0, 1) := dk_42 (dk_at dksX3_meets_2 3 rfl rfl)
theorem dX3_meets_50 : decode cX3_meets 50 = .ok (.getfield 52, 3) := dk_180 0 52 (dk_at dksX3_meets_2 4 rfl rfl)
theorem dX3_meets_53 : decode cX3_meets 53 = .ok (.iload_n 1, 1) := dk_27 (dk_at dksX3_meets_2 7 rfl rfl)
theorem dX3_meets_54 : decode cX3_meets 54 = .ok (.bipush (-2), 2) := dk_16 254 (dk_at dksX3_meets_2 8 rfl rfl)
theorem dX3_meets_56 : decode cX3_meets 56 = .ok (.iastore, 1) := dk_79 (dk_at dksX3_meets_2 10 rfl rfl)
theorem dX3_meets_57 : decode cX3_meets 57 = .ok (.aload_n 0, 1) := dk_42 (dk_at dksX3_meets_2 11 rfl rfl)
theorem dX3_meets_58 : decode cX3_meets 58 = .ok (.getfield 55, 3) := dk_180 0 55 (dk_at dksX3_meets_2 12 rfl rfl)
theorem dX3_meets_61 : decode cX3_meets 61 = .ok (.iload_n 1, 1) := dk_27 (dk_at dksX3_meets_2 15 rfl rfl)
theorem dX3_meets_62 : decode cX3_meets 62 = .ok (.bipush (-2), 2) := dk_16 254 (dk_at dksX3_meets_2 16 rfl rfl)
theorem dX3_meets_64 : decode cX3_meets 64 = .ok (.iastore, 1) := dk_79 (dk_at dksX3_meets_2 18 rfl rfl)
theorem dX3_meets_65 : decode cX3_meets 65 = .ok (.iinc 1 1, 3) := dk_132 1 1 (dk_at dksX3_meets_2 19 rfl rfl)
theorem dX3_meets_68 : decode cX3_meets 68 = .ok (.goto (-27), 3) := dk_167 255 229 (dk_at dksX3_meets_3 0 rfl rfl)
theorem dX3_meets_71 : decode cX3_meets 71 = .ok (.iconst 0, 1) := dk_3 (dk_at dksX3_meets_3 3 rfl rfl)
theorem dX3_meets_72 : decode cX3_meets 72 = .ok (.istore_n 1, 1) := dk_60 (dk_at dksX3_meets_3 4 rfl rfl)
theorem dX3_meets_73 : decode cX3_meets 73 = .ok (.iload_n 1, 1) := dk_27 (dk_at dksX3_meets_3 5 rfl rfl)
theorem dX3_meets_74 : decode cX3_meets 74 = .ok (.aload_n 0, 1) := dk_42 (dk_at dksX3_meets_3 6 rfl rfl)
theorem dX3_meets_75 : decode cX3_meets 75 = .ok (.getfield 166, 3) := dk_180 0 166 (dk_at dksX3_meets_3 7 rfl rfl)
theorem dX3_meets_78 : decode cX3_meets 78 = .ok (.if_icmp .ge 16, 3) := dk_162 0 16 (dk_at dksX3_meets_3 10 rfl rfl)
theorem dX3_meets_81 : decode cX3_meets 81 = .ok (.aload_n 0, 1) := dk_42 (dk_at dksX3_meets_3 13 rfl rfl)
theorem dX3_meets_82 : decode cX3_meets 82 = .ok (.getfield 58, 3) := dk_180 0 58 (dk_at dksX3_meets_3 14 rfl rfl)
theorem dX3_meets_85 : decode cX3_meets 85 = .ok (.iload_n 1, 1) := dk_27 (dk_at dksX3_meets_3 17 rfl rfl)
theorem dX3_meets_86 : decode cX3_meets 86 = .ok (.iconst 0, 1) := dk_3 (dk_at dksX3_meets_3 18 rfl rfl)
theorem dX3_meets_87 : decode cX3_meets 87 = .ok (.iastore, 1) := dk_79 (dk_at dksX3_meets_3 19 rfl rfl)
theorem dX3_meets_88 : decode cX3_meets 88 = .ok (.iinc 1 1, 3) := dk_132 1 1 (dk_at dksX3_meets_3 20 rfl rfl)
theorem dX3_meets_91 : decode cX3_meets 91 = .ok (.goto (-18), 3) := dk_167 255 238 (dk_at dksX3_meets_4 0 rfl rfl)
theorem dX3_meets_94 : decode cX3_meets 94 = .ok (.iconst 0, 1) := dk_3 (dk_at dksX3_meets_4 3 rfl rfl)
theorem dX3_meets_95 : decode cX3_meets 95 = .ok (.istore_n 1, 1) := dk_60 (dk_at dksX3_meets_4 4 rfl rfl)
theorem dX3_meets_96 : decode cX3_meets 96 = .ok (.iload_n 1, 1) := dk_27 (dk_at dksX3_meets_4 5 rfl rfl)
theorem dX3_meets_97 : decode cX3_meets 97 = .ok (.aload_n 0, 1) := dk_42 (dk_at dksX3_meets_4 6 rfl rfl)
theorem dX3_meets_98 : decode cX3_meets 98 = .ok (.getfield 166, 3) := dk_180 0 166 (dk_at dksX3_meets_4 7 rfl rfl)
theorem dX3_meets_101 : decode cX3_meets 101 = .ok (.if_icmp .ge 19, 3) := dk_162 0 19 (dk_at dksX3_meets_4 10 rfl rfl)
theorem dX3_meets_104 : decode cX3_meets 104 = .ok (.aload_n 0, 1) := dk_42 (dk_at dksX3_meets_4 13 rfl rfl)
theorem dX3_meets_105 : decode cX3_meets 105 = .ok (.aload_n 0, 1) := dk_42 (dk_at dksX3_meets_4 14 rfl rfl)
theorem dX3_meets_106 : decode cX3_meets 106 = .ok (.getfield 61, 3) := dk_180 0 61 (dk_at dksX3_meets_4 15 rfl rfl)
theorem dX3_meets_109 : decode cX3_meets 109 = .ok (.iload_n 1, 1) := dk_27 (dk_at dksX3_meets_4 18 rfl rfl)
theorem dX3_meets_110 : decode cX3_meets 110 = .ok (.iaload, 1) := dk_46 (dk_at dksX3_meets_4 19 rfl rfl)
theorem dX3_meets_111 : decode cX3_meets 111 = .ok (.invokevirtual 352, 3) := dk_182 1 96 (dk_at dksX3_meets_4 20 rfl rfl)
theorem dX3_meets_114 : decode cX3_meets 114 = .ok (.iinc 1 1, 3) := dk_132 1 1 (dk_at dksX3_meets_5 0 rfl rfl)
theorem dX3_meets_117 : decode cX3_meets 117 = .ok (.goto (-21), 3) := dk_167 255 235 (dk_at dksX3_meets_5 3 rfl rfl)
theorem dX3_meets_120 : decode cX3_meets 120 = .ok (.return_, 1) := dk_177 (dk_at dksX3_meets_5 6 rfl rfl)
abbrev cX3_oneThing : ByteArray := prog_34_method_51_code
def yX3_oneThing : MethodName := ⟨RX3, "oneThing", "(I)V"⟩
def dkwX3_oneThing_6 : List UInt8 := [155, 0, 7, 4, 167, 0, 4, 3, 61, 28, 153, 0, 9, 42, 29, 27, 182, 1, 92, 167, 255, 135, 177]
abbrev dktX3_oneThing_6 : List UInt8 := dkwX3_oneThing_6 ++ []
def dkwX3_oneThing_5 : List UInt8 := [167, 0, 4, 3, 182, 1, 85, 167, 0, 4, 3, 79, 132, 3, 1, 167, 255, 190, 42, 182, 1, 89, 62, 29]
abbrev dktX3_oneThing_5 : List UInt8 := dkwX3_oneThing_5 ++ dktX3_oneThing_6
def dkwX3_oneThing_4 : List UInt8 := [182, 1, 68, 42, 180, 0, 43, 29, 46, 42, 180, 0, 58, 27, 46, 29, 42, 180, 1, 49, 160, 0, 7, 4]
abbrev dktX3_oneThing_4 : List UInt8 := dkwX3_oneThing_4 ++ dktX3_oneThing_5
def dkwX3_oneThing_3 : List UInt8 := [162, 0, 64, 42, 180, 0, 46, 29, 42, 29, 182, 1, 43, 153, 0, 43, 42, 29, 27, 42, 29, 27]
abbrev dktX3_oneThing_3 : List UInt8 := dkwX3_oneThing_3 ++ dktX3_oneThing_4
def dkwX3_oneThing_2 : List UInt8 := [16, 60, 162, 0, 112, 42, 180, 1, 65, 17, 0, 200, 162, 0, 102, 3, 62, 29, 42, 180, 0, 159]
abbrev dktX3_oneThing_2 : List UInt8 := dkwX3_oneThing_2 ++ dktX3_oneThing_3
def dkwX3_oneThing_1 : List UInt8 := [180, 0, 43, 28, 3, 79, 132, 2, 1, 167, 255, 238, 4, 61, 28, 153, 0, 123, 42, 180, 0, 58, 27, 46]
abbrev dktX3_oneThing_1 : List UInt8 := dkwX3_oneThing_1 ++ dktX3_oneThing_2
def dkwX3_oneThing_0 : List UInt8 := [42, 180, 1, 24, 8, 160, 0, 8, 42, 27, 182, 1, 81, 3, 61, 28, 42, 180, 0, 159, 162, 0, 16, 42]
abbrev dktX3_oneThing_0 : List UInt8 := dkwX3_oneThing_0 ++ dktX3_oneThing_1
theorem dksX3_oneThing_0 : cX3_oneThing.data.toList.drop 0 = dktX3_oneThing_0 := by decide +kernel
theorem dksX3_oneThing_1 : cX3_oneThing.data.toList.drop 24 = dktX3_oneThing_1 := dk_seg dksX3_oneThing_0 24 rfl rfl
theorem dksX3_oneThing_2 : cX3_oneThing.data.toList.drop 48 = dktX3_oneThing_2 := dk_seg dksX3_oneThing_1 24 rfl rfl
theorem dksX3_oneThing_3 : cX3_oneThing.data.toList.drop 70 = dktX3_oneThing_3 := dk_seg dksX3_oneThing_2 22 rfl rfl
theorem dksX3_oneThing_4 : cX3_oneThing.data.toList.drop 92 = dktX3_oneThing_4 := dk_seg dksX3_oneThing_3 22 rfl rfl
theorem dksX3_oneThing_5 : cX3_oneThing.data.toList.drop 116 = dktX3_oneThing_5 := dk_seg dksX3_oneThing_4 24 rfl rfl
theorem dksX3_oneThing_6 : cX3_oneThing.data.toList.drop 140 = dktX3_oneThing_6 := dk_seg dksX3_oneThing_5 24 rfl rfl
theorem dX3_oneThing_0 : decode cX3_oneThing 0 = .ok (.aload_n 0, 1) := dk_42 (dk_at dksX3_oneThing_0 0 rfl rfl)
theorem dX3_oneThing_1 : decode cX3_oneThing 1 = .ok (.getfield 280, 3) := dk_180 1 24 (dk_at dksX3_oneThing_0 1 rfl rfl)
theorem dX3_oneThing_4 : decode cX3_oneThing 4 = .ok (.iconst 5, 1) := dk_8 (dk_at dksX3_oneThing_0 4 rfl rfl)
theorem dX3_oneThing_5 : decode cX3_oneThing 5 = .ok (.if_icmp .ne 8, 3) := dk_160 0 8 (dk_at dksX3_oneThing_0 5 rfl rfl)
theorem dX3_oneThing_8 : decode cX3_oneThing 8 = .ok (.aload_n 0, 1) := dk_42 (dk_at dksX3_oneThing_0 8 rfl rfl)
theorem dX3_oneThing_9 : decode cX3_oneThing 9 = .ok (.iload_n 1, 1) := dk_27 (dk_at dksX3_oneThing_0 9 rfl rfl)
theorem dX3_oneThing_10 : decode cX3_oneThing 10 = .ok (.invokevirtual 337, 3) := dk_182 1 81 (dk_at dksX3_oneThing_0 10 rfl rfl)
theorem dX3_oneThing_13 : decode cX3_oneThing 13 = .ok (.iconst 0, 1) := dk_3 (dk_at dksX3_oneThing_0 13 rfl rfl)
theorem dX3_oneThing_14 : decode cX3_oneThing 14 = .ok (.istore_n 2, 1) := dk_61 (dk_at dksX3_oneThing_0 14 rfl rfl)
theorem dX3_oneThing_15 : decode cX3_oneThing 15 = .ok (.iload_n 2, 1) := dk_28 (dk_at dksX3_oneThing_0 15 rfl rfl)
theorem dX3_oneThing_16 : decode cX3_oneThing 16 = .ok (.aload_n 0, 1) := dk_42 (dk_at dksX3_oneThing_0 16 rfl rfl)
theorem dX3_oneThing_17 : decode cX3_oneThing 17 = .ok (.getfield 159, 3) := dk_180 0 159 (dk_at dksX3_oneThing_0 17 rfl rfl)
theorem dX3_oneThing_20 : decode cX3_oneThing 20 = .ok (.if_icmp .ge 16, 3) := dk_162 0 16 (dk_at dksX3_oneThing_0 20 rfl rfl)
theorem dX3_oneThing_23 : decode cX3_oneThing 23 = .ok (.aload_n 0, 1) := dk_42 (dk_at dksX3_oneThing_0 23 rfl rfl)
theorem dX3_oneThing_24 : decode cX3_oneThing 24 = .ok (.getfield 43, 3) := dk_180 0 43 (dk_at dksX3_oneThing_1 0 rfl rfl)
theorem dX3_oneThing_27 : decode cX3_oneThing 27 = .ok (.iload_n 2, 1) := dk_28 (dk_at dksX3_oneThing_1 3 rfl rfl)
theorem dX3_oneThing_28 : decode cX3_oneThing 28 = .ok (.iconst 0, 1) := dk_3 (dk_at dksX3_oneThing_1 4 rfl rfl)
theorem dX3_oneThing_29 : decode cX3_oneThing 29 = .ok (.iastore, 1) := dk_79 (dk_at dksX3_oneThing_1 5 rfl rfl)
theorem dX3_oneThing_30 : decode cX3_oneThing 30 = .ok (.iinc 2 1, 3) := dk_132 2 1 (dk_at dksX3_oneThing_1 6 rfl rfl)
theorem dX3_oneThing_33 : decode cX3_oneThing 33 = .ok (.goto (-18), 3) := dk_167 255 238 (dk_at dksX3_oneThing_1 9 rfl rfl)
theorem dX3_oneThing_36 : decode cX3_oneThing 36 = .ok (.iconst 1, 1) := dk_4 (dk_at dksX3_oneThing_1 12 rfl rfl)
theorem dX3_oneThing_37 : decode cX3_oneThing 37 = .ok (.istore_n 2, 1) := dk_61 (dk_at dksX3_oneThing_1 13 rfl rfl)
theorem dX3_oneThing_38 : decode cX3_oneThing 38 = .ok (.iload_n 2, 1) := dk_28 (dk_at dksX3_oneThing_1 14 rfl rfl)
theorem dX3_oneThing_39 : decode cX3_oneThing 39 = .ok (.ifCond .eq 123, 3) := dk_153 0 123 (dk_at dksX3_oneThing_1 15 rfl rfl)
theorem dX3_oneThing_42 : decode cX3_oneThing 42 = .ok (.aload_n 0, 1) := dk_42 (dk_at dksX3_oneThing_1 18 rfl rfl)
theorem dX3_oneThing_43 : decode cX3_oneThing 43 = .ok (.getfield 58, 3) := dk_180 0 58 (dk_at dksX3_oneThing_1 19 rfl rfl)
theorem dX3_oneThing_46 : decode cX3_oneThing 46 = .ok (.iload_n 1, 1) := dk_27 (dk_at dksX3_oneThing_1 22 rfl rfl)
theorem dX3_oneThing_47 : decode cX3_oneThing 47 = .ok (.iaload, 1) := dk_46 (dk_at dksX3_oneThing_1 23 rfl rfl)
theorem dX3_oneThing_48 : decode cX3_oneThing 48 = .ok (.bipush 60, 2) := dk_16 60 (dk_at dksX3_oneThing_2 0 rfl rfl)
theorem dX3_oneThing_50 : decode cX3_oneThing 50 = .ok (.if_icmp .ge 112, 3) := dk_162 0 112 (dk_at dksX3_oneThing_2 2 rfl rfl)
theorem dX3_oneThing_53 : decode cX3_oneThing 53 = .ok (.aload_n 0, 1) := dk_42 (dk_at dksX3_oneThing_2 5 rfl rfl)
theorem dX3_oneThing_54 : decode cX3_oneThing 54 = .ok (.getfield 321, 3) := dk_180 1 65 (dk_at dksX3_oneThing_2 6 rfl rfl)
theorem dX3_oneThing_57 : decode cX3_oneThing 57 = .ok (.sipush 200, 3) := dk_17 0 200 (dk_at dksX3_oneThing_2 9 rfl rfl)
theorem dX3_oneThing_60 : decode cX3_oneThing 60 = .ok (.if_icmp .ge 102, 3) := dk_162 0 102 (dk_at dksX3_oneThing_2 12 rfl rfl)
theorem dX3_oneThing_63 : decode cX3_oneThing 63 = .ok (.iconst 0, 1) := dk_3 (dk_at dksX3_oneThing_2 15 rfl rfl)
theorem dX3_oneThing_64 : decode cX3_oneThing 64 = .ok (.istore_n 3, 1) := dk_62 (dk_at dksX3_oneThing_2 16 rfl rfl)
theorem dX3_oneThing_65 : decode cX3_oneThing 65 = .ok (.iload_n 3, 1) := dk_29 (dk_at dksX3_oneThing_2 17 rfl rfl)
theorem dX3_oneThing_66 : decode cX3_oneThing 66 = .ok (.aload_n 0, 1) := dk_42 (dk_at dksX3_oneThing_2 18 rfl rfl)
theorem dX3_oneThing_67 : decode cX3_oneThing 67 = .ok (.getfield 159, 3) := dk_180 0 159 (dk_at dksX3_oneThing_2 19 rfl rfl)
theorem dX3_oneThing_70 : decode cX3_oneThing 70 = .ok (.if_icmp .ge 64, 3) := dk_162 0 64 (dk_at dksX3_oneThing_3 0 rfl rfl)
theorem dX3_oneThing_73 : decode cX3_oneThing 73 = .ok (.aload_n 0, 1) := dk_42 (dk_at dksX3_oneThing_3 3 rfl rfl)
theorem dX3_oneThing_74 : decode cX3_oneThing 74 = .ok (.getfield 46, 3) := dk_180 0 46 (dk_at dksX3_oneThing_3 4 rfl rfl)
theorem dX3_oneThing_77 : decode cX3_oneThing 77 = .ok (.iload_n 3, 1) := dk_29 (dk_at dksX3_oneThing_3 7 rfl rfl)
theorem dX3_oneThing_78 : decode cX3_oneThing 78 = .ok (.aload_n 0, 1) := dk_42 (dk_at dksX3_oneThing_3 8 rfl rfl)
theorem dX3_oneThing_79 : decode cX3_oneThing 79 = .ok (.iload_n 3, 1) := dk_29 (dk_at dksX3_oneThing_3 9 rfl rfl)
theorem dX3_oneThing_80 : decode cX3_oneThing 80 = .ok (.invokevirtual 299, 3) := dk_182 1 43 (dk_at dksX3_oneThing_3 10 rfl rfl)
theorem dX3_oneThing_83 : decode cX3_oneThing 83 = .ok (.ifCond .eq 43, 3) := dk_153 0 43 (dk_at dksX3_oneThing_3 13 rfl rfl)
theorem dX3_oneThing_86 : decode cX3_oneThing 86 = .ok (.aload_n 0, 1) := dk_42 (dk_at dksX3_oneThing_3 16 rfl rfl)
theorem dX3_oneThing_87 : decode cX3_oneThing 87 = .ok (.iload_n 3, 1) := dk_29 (dk_at dksX3_oneThing_3 17 rfl rfl)
theorem dX3_oneThing_88 : decode cX3_oneThing 88 = .ok (.iload_n 1, 1) := dk_27 (dk_at dksX3_oneThing_3 18 rfl rfl)
theorem dX3_oneThing_89 : decode cX3_oneThing 89 = .ok (.aload_n 0, 1) := dk_42 (dk_at dksX3_oneThing_3 19 rfl rfl)
theorem dX3_oneThing_90 : decode cX3_oneThing 90 = .ok (.iload_n 3, 1) := dk_29 (dk_at dksX3_oneThing_3 20 rfl rfl)
theorem dX3_oneThing_91 : decode cX3_oneThing 91 = .ok (.iload_n 1, 1) := dk_27 (dk_at dksX3_oneThing_3 21 rfl rfl)
theorem dX3_oneThing_92 : decode cX3_oneThing 92 = .ok (.invokevirtual 324, 3) := dk_182 1 68 (dk_at dksX3_oneThing_4 0 rfl rfl)
theorem dX3_oneThing_95 : decode cX3_oneThing 95 = .ok (.aload_n 0, 1) := dk_42 (dk_at dksX3_oneThing_4 3 rfl rfl)
theorem dX3_oneThing_96 : decode cX3_oneThing 96 = .ok (.getfield 43, 3) := dk_180 0 43 (dk_at dksX3_oneThing_4 4 rfl rfl)
theorem dX3_oneThing_99 : decode cX3_oneThing 99 = .ok (.iload_n 3, 1) := dk_29 (dk_at dksX3_oneThing_4 7 rfl rfl)
theorem dX3_oneThing_100 : decode cX3_oneThing 100 = .ok (.iaload, 1) := dk_46 (dk_at dksX3_oneThing_4 8 rfl rfl)
theorem dX3_oneThing_101 : decode cX3_oneThing 101 = .ok (.aload_n 0, 1) := dk_42 (dk_at dksX3_oneThing_4 9 rfl rfl)
theorem dX3_oneThing_102 : decode cX3_oneThing 102 = .ok (.getfield 58, 3) := dk_180 0 58 (dk_at dksX3_oneThing_4 10 rfl rfl)
theorem dX3_oneThing_105 : decode cX3_oneThing 105 = .ok (.iload_n 1, 1) := dk_27 (dk_at dksX3_oneThing_4 13 rfl rfl)
theorem dX3_oneThing_106 : decode cX3_oneThing 106 = .ok (.iaload, 1) := dk_46 (dk_at dksX3_oneThing_4 14 rfl rfl)
theorem dX3_oneThing_107 : decode cX3_oneThing 107 = .ok (.iload_n 3, 1) := dk_29 (dk_at dksX3_oneThing_4 15 rfl rfl)
theorem dX3_oneThing_108 : decode cX3_oneThing 108 = .ok (.aload_n 0, 1) := dk_42 (dk_at dksX3_oneThing_4 16 rfl rfl)
theorem dX3_oneThing_109 : decode cX3_oneThing 109 = .ok (.getfield 305, 3) := dk_180 1 49 (dk_at dksX3_oneThing_4 17 rfl rfl)
theorem dX3_oneThing_112 : decode cX3_oneThing 112 = .ok (.if_icmp .ne 7, 3) := dk_160 0 7 (dk_at dksX3_oneThing_4 20 rfl rfl)
theorem dX3_oneThing_115 : decode cX3_oneThing 115 = .ok (.iconst 1, 1) := dk_4 (dk_at dksX3_oneThing_4 23 rfl rfl)
theorem dX3_oneThing_116 : decode cX3_oneThing 116 = .ok (.goto 4, 3) := dk_167 0 4 (dk_at dksX3_oneThing_5 0 rfl rfl)
theorem dX3_oneThing_119 : decode cX3_oneThing 119 = .ok (.iconst 0, 1) := dk_3 (dk_at dksX3_oneThing_5 3 rfl rfl)
theorem dX3_oneThing_120 : decode cX3_oneThing 120 = .ok (.invokevirtual 341, 3) := dk_182 1 85 (dk_at dksX3_oneThing_5 4 rfl rfl)
theorem dX3_oneThing_123 : decode cX3_oneThing 123 = .ok (.goto 4, 3) := dk_167 0 4 (dk_at dksX3_oneThing_5 7 rfl rfl)
theorem dX3_oneThing_126 : decode cX3_oneThing 126 = .ok (.iconst 0, 1) := dk_3 (dk_at dksX3_oneThing_5 10 rfl rfl)
theorem dX3_oneThing_127 : decode cX3_oneThing 127 = .ok (.iastore, 1) := dk_79 (dk_at dksX3_oneThing_5 11 rfl rfl)
theorem dX3_oneThing_128 : decode cX3_oneThing 128 = .ok (.iinc 3 1, 3) := dk_132 3 1 (dk_at dksX3_oneThing_5 12 rfl rfl)
theorem dX3_oneThing_131 : decode cX3_oneThing 131 = .ok (.goto (-66), 3) := dk_167 255 190 (dk_at dksX3_oneThing_5 15 rfl rfl)
theorem dX3_oneThing_134 : decode cX3_oneThing 134 = .ok (.aload_n 0, 1) := dk_42 (dk_at dksX3_oneThing_5 18 rfl rfl)
theorem dX3_oneThing_135 : decode cX3_oneThing 135 = .ok (.invokevirtual 345, 3) := dk_182 1 89 (dk_at dksX3_oneThing_5 19 rfl rfl)
theorem dX3_oneThing_138 : decode cX3_oneThing 138 = .ok (.istore_n 3, 1) := dk_62 (dk_at dksX3_oneThing_5 22 rfl rfl)
theorem dX3_oneThing_139 : decode cX3_oneThing 139 = .ok (.iload_n 3, 1) := dk_29 (dk_at dksX3_oneThing_5 23 rfl rfl)
theorem dX3_oneThing_140 : decode cX3_oneThing 140 = .ok (.ifCond .lt 7, 3) := dk_155 0 7 (dk_at dksX3_oneThing_6 0 rfl rfl)
theorem dX3_oneThing_143 : decode cX3_oneThing 143 = .ok (.iconst 1, 1) := dk_4 (dk_at dksX3_oneThing_6 3 rfl rfl)
theorem dX3_oneThing_144 : decode cX3_oneThing 144 = .ok (.goto 4, 3) := dk_167 0 4 (dk_at dksX3_oneThing_6 4 rfl rfl)
theorem dX3_oneThing_147 : decode cX3_oneThing 147 = .ok (.iconst 0, 1) := dk_3 (dk_at dksX3_oneThing_6 7 rfl rfl)
theorem dX3_oneThing_148 : decode cX3_oneThing 148 = .ok (.istore_n 2, 1) := dk_61 (dk_at dksX3_oneThing_6 8 rfl rfl)
theorem dX3_oneThing_149 : decode cX3_oneThing 149 = .ok (.iload_n 2, 1) := dk_28 (dk_at dksX3_oneThing_6 9 rfl rfl)
theorem dX3_oneThing_150 : decode cX3_oneThing 150 = .ok (.ifCond .eq 9, 3) := dk_153 0 9 (dk_at dksX3_oneThing_6 10 rfl rfl)
theorem dX3_oneThing_153 : decode cX3_oneThing 153 = .ok (.aload_n 0, 1) := dk_42 (dk_at dksX3_oneThing_6 13 rfl rfl)
theorem dX3_oneThing_154 : decode cX3_oneThing 154 = .ok (.iload_n 3, 1) := dk_29 (dk_at dksX3_oneThing_6 14 rfl rfl)
theorem dX3_oneThing_155 : decode cX3_oneThing 155 = .ok (.iload_n 1, 1) := dk_27 (dk_at dksX3_oneThing_6 15 rfl rfl)
theorem dX3_oneThing_156 : decode cX3_oneThing 156 = .ok (.invokevirtual 348, 3) := dk_182 1 92 (dk_at dksX3_oneThing_6 16 rfl rfl)
theorem dX3_oneThing_159 : decode cX3_oneThing 159 = .ok (.goto (-121), 3) := dk_167 255 135 (dk_at dksX3_oneThing_6 19 rfl rfl)
theorem dX3_oneThing_162 : decode cX3_oneThing 162 = .ok (.return_, 1) := dk_177 (dk_at dksX3_oneThing_6 22 rfl rfl)
abbrev cX3_putsPaper : ByteArray := prog_34_method_50_code
def yX3_putsPaper : MethodName := ⟨RX3, "putsPaper", "(I)V"⟩
def dkwX3_putsPaper_3 : List UInt8 := [167, 255, 196, 132, 2, 1, 167, 255, 180, 177]
abbrev dktX3_putsPaper_3 : List UInt8 := dkwX3_putsPaper_3 ++ []
def dkwX3_putsPaper_2 : List UInt8 := [28, 182, 1, 36, 153, 0, 17, 42, 180, 0, 52, 28, 2, 79, 42, 180, 0, 55, 28, 2, 79, 132, 3, 1]
abbrev dktX3_putsPaper_2 : List UInt8 := dkwX3_putsPaper_2 ++ dktX3_putsPaper_3
def dkwX3_putsPaper_1 : List UInt8 := [28, 46, 27, 160, 0, 42, 42, 28, 182, 1, 40, 154, 0, 34, 42, 29, 182, 1, 43, 153, 0, 26, 42, 29]
abbrev dktX3_putsPaper_1 : List UInt8 := dkwX3_putsPaper_1 ++ dktX3_putsPaper_2
def dkwX3_putsPaper_0 : List UInt8 := [3, 61, 28, 42, 180, 0, 169, 162, 0, 74, 3, 62, 29, 42, 180, 0, 159, 162, 0, 58, 42, 180, 0, 25]
abbrev dktX3_putsPaper_0 : List UInt8 := dkwX3_putsPaper_0 ++ dktX3_putsPaper_1
theorem dksX3_putsPaper_0 : cX3_putsPaper.data.toList.drop 0 = dktX3_putsPaper_0 := by decide +kernel
theorem dksX3_putsPaper_1 : cX3_putsPaper.data.toList.drop 24 = dktX3_putsPaper_1 := dk_seg dksX3_putsPaper_0 24 rfl rfl
theorem dksX3_putsPaper_2 : cX3_putsPaper.data.toList.drop 48 = dktX3_putsPaper_2 := dk_seg dksX3_putsPaper_1 24 rfl rfl
theorem dksX3_putsPaper_3 : cX3_putsPaper.data.toList.drop 72 = dktX3_putsPaper_3 := dk_seg dksX3_putsPaper_2 24 rfl rfl
theorem dX3_putsPaper_0 : decode cX3_putsPaper 0 = .ok (.iconst 0, 1) := dk_3 (dk_at dksX3_putsPaper_0 0 rfl rfl)
theorem dX3_putsPaper_1 : decode cX3_putsPaper 1 = .ok (.istore_n 2, 1) := dk_61 (dk_at dksX3_putsPaper_0 1 rfl rfl)
theorem dX3_putsPaper_2 : decode cX3_putsPaper 2 = .ok (.iload_n 2, 1) := dk_28 (dk_at dksX3_putsPaper_0 2 rfl rfl)
theorem dX3_putsPaper_3 : decode cX3_putsPaper 3 = .ok (.aload_n 0, 1) := dk_42 (dk_at dksX3_putsPaper_0 3 rfl rfl)
theorem dX3_putsPaper_4 : decode cX3_putsPaper 4 = .ok (.getfield 169, 3) := dk_180 0 169 (dk_at dksX3_putsPaper_0 4 rfl rfl)
theorem dX3_putsPaper_7 : decode cX3_putsPaper 7 = .ok (.if_icmp .ge 74, 3) := dk_162 0 74 (dk_at dksX3_putsPaper_0 7 rfl rfl)
theorem dX3_putsPaper_10 : decode cX3_putsPaper 10 = .ok (.iconst 0, 1) := dk_3 (dk_at dksX3_putsPaper_0 10 rfl rfl)
theorem dX3_putsPaper_11 : decode cX3_putsPaper 11 = .ok (.istore_n 3, 1) := dk_62 (dk_at dksX3_putsPaper_0 11 rfl rfl)
theorem dX3_putsPaper_12 : decode cX3_putsPaper 12 = .ok (.iload_n 3, 1) := dk_29 (dk_at dksX3_putsPaper_0 12 rfl rfl)
theorem dX3_putsPaper_13 : decode cX3_putsPaper 13 = .ok (.aload_n 0, 1) := dk_42 (dk_at dksX3_putsPaper_0 13 rfl rfl)
theorem dX3_putsPaper_14 : decode cX3_putsPaper 14 = .ok (.getfield 159, 3) := dk_180 0 159 (dk_at dksX3_putsPaper_0 14 rfl rfl)
theorem dX3_putsPaper_17 : decode cX3_putsPaper 17 = .ok (.if_icmp .ge 58, 3) := dk_162 0 58 (dk_at dksX3_putsPaper_0 17 rfl rfl)
theorem dX3_putsPaper_20 : decode cX3_putsPaper 20 = .ok (.aload_n 0, 1) := dk_42 (dk_at dksX3_putsPaper_0 20 rfl rfl)
theorem dX3_putsPaper_21 : decode cX3_putsPaper 21 = .ok (.getfield 25, 3) := dk_180 0 25 (dk_at dksX3_putsPaper_0 21 rfl rfl)
theorem dX3_putsPaper_24 : decode cX3_putsPaper 24 = .ok (.iload_n 2, 1) := dk_28 (dk_at dksX3_putsPaper_1 0 rfl rfl)
theorem dX3_putsPaper_25 : decode cX3_putsPaper 25 = .ok (.iaload, 1) := dk_46 (dk_at dksX3_putsPaper_1 1 rfl rfl)
theorem dX3_putsPaper_26 : decode cX3_putsPaper 26 = .ok (.iload_n 1, 1) := dk_27 (dk_at dksX3_putsPaper_1 2 rfl rfl)
theorem dX3_putsPaper_27 : decode cX3_putsPaper 27 = .ok (.if_icmp .ne 42, 3) := dk_160 0 42 (dk_at dksX3_putsPaper_1 3 rfl rfl)
theorem dX3_putsPaper_30 : decode cX3_putsPaper 30 = .ok (.aload_n 0, 1) := dk_42 (dk_at dksX3_putsPaper_1 6 rfl rfl)
theorem dX3_putsPaper_31 : decode cX3_putsPaper 31 = .ok (.iload_n 2, 1) := dk_28 (dk_at dksX3_putsPaper_1 7 rfl rfl)
theorem dX3_putsPaper_32 : decode cX3_putsPaper 32 = .ok (.invokevirtual 296, 3) := dk_182 1 40 (dk_at dksX3_putsPaper_1 8 rfl rfl)
theorem dX3_putsPaper_35 : decode cX3_putsPaper 35 = .ok (.ifCond .ne 34, 3) := dk_154 0 34 (dk_at dksX3_putsPaper_1 11 rfl rfl)
theorem dX3_putsPaper_38 : decode cX3_putsPaper 38 = .ok (.aload_n 0, 1) := dk_42 (dk_at dksX3_putsPaper_1 14 rfl rfl)
theorem dX3_putsPaper_39 : decode cX3_putsPaper 39 = .ok (.iload_n 3, 1) := dk_29 (dk_at dksX3_putsPaper_1 15 rfl rfl)
theorem dX3_putsPaper_40 : decode cX3_putsPaper 40 = .ok (.invokevirtual 299, 3) := dk_182 1 43 (dk_at dksX3_putsPaper_1 16 rfl rfl)
theorem dX3_putsPaper_43 : decode cX3_putsPaper 43 = .ok (.ifCond .eq 26, 3) := dk_153 0 26 (dk_at dksX3_putsPaper_1 19 rfl rfl)
theorem dX3_putsPaper_46 : decode cX3_putsPaper 46 = .ok (.aload_n 0, 1) := dk_42 (dk_at dksX3_putsPaper_1 22 rfl rfl)
theorem dX3_putsPaper_47 : decode cX3_putsPaper 47 = .ok (.iload_n 3, 1) := dk_29 (dk_at dksX3_putsPaper_1 23 rfl rfl)
theorem dX3_putsPaper_48 : decode cX3_putsPaper 48 = .ok (.iload_n 2, 1) := dk_28 (dk_at dksX3_putsPaper_2 0 rfl rfl)
theorem dX3_putsPaper_49 : decode cX3_putsPaper 49 = .ok (.invokevirtual 292, 3) := dk_182 1 36 (dk_at dksX3_putsPaper_2 1 rfl rfl)
theorem dX3_putsPaper_52 : decode cX3_putsPaper 52 = .ok (.ifCond .eq 17, 3) := dk_153 0 17 (dk_at dksX3_putsPaper_2 4 rfl rfl)
theorem dX3_putsPaper_55 : decode cX3_putsPaper 55 = .ok (.aload_n 0, 1) := dk_42 (dk_at dksX3_putsPaper_2 7 rfl rfl)
theorem dX3_putsPaper_56 : decode cX3_putsPaper 56 = .ok (.getfield 52, 3) := dk_180 0 52 (dk_at dksX3_putsPaper_2 8 rfl rfl)
theorem dX3_putsPaper_59 : decode cX3_putsPaper 59 = .ok (.iload_n 2, 1) := dk_28 (dk_at dksX3_putsPaper_2 11 rfl rfl)
theorem dX3_putsPaper_60 : decode cX3_putsPaper 60 = .ok (.iconst (-1), 1) := dk_2 (dk_at dksX3_putsPaper_2 12 rfl rfl)
theorem dX3_putsPaper_61 : decode cX3_putsPaper 61 = .ok (.iastore, 1) := dk_79 (dk_at dksX3_putsPaper_2 13 rfl rfl)
theorem dX3_putsPaper_62 : decode cX3_putsPaper 62 = .ok (.aload_n 0, 1) := dk_42 (dk_at dksX3_putsPaper_2 14 rfl rfl)
theorem dX3_putsPaper_63 : decode cX3_putsPaper 63 = .ok (.getfield 55, 3) := dk_180 0 55 (dk_at dksX3_putsPaper_2 15 rfl rfl)
theorem dX3_putsPaper_66 : decode cX3_putsPaper 66 = .ok (.iload_n 2, 1) := dk_28 (dk_at dksX3_putsPaper_2 18 rfl rfl)
theorem dX3_putsPaper_67 : decode cX3_putsPaper 67 = .ok (.iconst (-1), 1) := dk_2 (dk_at dksX3_putsPaper_2 19 rfl rfl)
theorem dX3_putsPaper_68 : decode cX3_putsPaper 68 = .ok (.iastore, 1) := dk_79 (dk_at dksX3_putsPaper_2 20 rfl rfl)
theorem dX3_putsPaper_69 : decode cX3_putsPaper 69 = .ok (.iinc 3 1, 3) := dk_132 3 1 (dk_at dksX3_putsPaper_2 21 rfl rfl)
theorem dX3_putsPaper_72 : decode cX3_putsPaper 72 = .ok (.goto (-60), 3) := dk_167 255 196 (dk_at dksX3_putsPaper_3 0 rfl rfl)
theorem dX3_putsPaper_75 : decode cX3_putsPaper 75 = .ok (.iinc 2 1, 3) := dk_132 2 1 (dk_at dksX3_putsPaper_3 3 rfl rfl)
theorem dX3_putsPaper_78 : decode cX3_putsPaper 78 = .ok (.goto (-76), 3) := dk_167 255 180 (dk_at dksX3_putsPaper_3 6 rfl rfl)
theorem dX3_putsPaper_81 : decode cX3_putsPaper 81 = .ok (.return_, 1) := dk_177 (dk_at dksX3_putsPaper_3 9 rfl rfl)
abbrev cX3_isSaid : ByteArray := prog_34_method_37_code
def yX3_isSaid : MethodName := ⟨RX3, "isSaid", "(I)Z"⟩
def dkwX3_isSaid_0 : List UInt8 := [42, 180, 0, 52, 27, 46, 16, 254, 159, 0, 7, 4, 167, 0, 4, 3, 172]
abbrev dktX3_isSaid_0 : List UInt8 := dkwX3_isSaid_0 ++ []
theorem dksX3_isSaid_0 : cX3_isSaid.data.toList.drop 0 = dktX3_isSaid_0 := by decide +kernel
theorem dX3_isSaid_0 : decode cX3_isSaid 0 = .ok (.aload_n 0, 1) := dk_42 (dk_at dksX3_isSaid_0 0 rfl rfl)
theorem dX3_isSaid_1 : decode cX3_isSaid 1 = .ok (.getfield 52, 3) := dk_180 0 52 (dk_at dksX3_isSaid_0 1 rfl rfl)
theorem dX3_isSaid_4 : decode cX3_isSaid 4 = .ok (.iload_n 1, 1) := dk_27 (dk_at dksX3_isSaid_0 4 rfl rfl)
theorem dX3_isSaid_5 : decode cX3_isSaid 5 = .ok (.iaload, 1) := dk_46 (dk_at dksX3_isSaid_0 5 rfl rfl)
theorem dX3_isSaid_6 : decode cX3_isSaid 6 = .ok (.bipush (-2), 2) := dk_16 254 (dk_at dksX3_isSaid_0 6 rfl rfl)
theorem dX3_isSaid_8 : decode cX3_isSaid 8 = .ok (.if_icmp .eq 7, 3) := dk_159 0 7 (dk_at dksX3_isSaid_0 8 rfl rfl)
theorem dX3_isSaid_11 : decode cX3_isSaid 11 = .ok (.iconst 1, 1) := dk_4 (dk_at dksX3_isSaid_0 11 rfl rfl)
theorem dX3_isSaid_12 : decode cX3_isSaid 12 = .ok (.goto 4, 3) := dk_167 0 4 (dk_at dksX3_isSaid_0 12 rfl rfl)
theorem dX3_isSaid_15 : decode cX3_isSaid 15 = .ok (.iconst 0, 1) := dk_3 (dk_at dksX3_isSaid_0 15 rfl rfl)
theorem dX3_isSaid_16 : decode cX3_isSaid 16 = .ok (.ireturn, 1) := dk_172 (dk_at dksX3_isSaid_0 16 rfl rfl)
abbrev cX3_isThere : ByteArray := prog_34_method_35_code
def yX3_isThere : MethodName := ⟨RX3, "isThere", "(I)Z"⟩
def dkwX3_isThere_1 : List UInt8 := [4, 167, 0, 4, 3, 172]
abbrev dktX3_isThere_1 : List UInt8 := dkwX3_isThere_1 ++ []
def dkwX3_isThere_0 : List UInt8 := [27, 42, 180, 1, 30, 159, 0, 23, 42, 180, 0, 9, 16, 20, 27, 96, 46, 42, 180, 1, 33, 163, 0, 7]
abbrev dktX3_isThere_0 : List UInt8 := dkwX3_isThere_0 ++ dktX3_isThere_1
theorem dksX3_isThere_0 : cX3_isThere.data.toList.drop 0 = dktX3_isThere_0 := by decide +kernel
theorem dksX3_isThere_1 : cX3_isThere.data.toList.drop 24 = dktX3_isThere_1 := dk_seg dksX3_isThere_0 24 rfl rfl
theorem dX3_isThere_0 : decode cX3_isThere 0 = .ok (.iload_n 1, 1) := dk_27 (dk_at dksX3_isThere_0 0 rfl rfl)
theorem dX3_isThere_1 : decode cX3_isThere 1 = .ok (.aload_n 0, 1) := dk_42 (dk_at dksX3_isThere_0 1 rfl rfl)
theorem dX3_isThere_2 : decode cX3_isThere 2 = .ok (.getfield 286, 3) := dk_180 1 30 (dk_at dksX3_isThere_0 2 rfl rfl)
theorem dX3_isThere_5 : decode cX3_isThere 5 = .ok (.if_icmp .eq 23, 3) := dk_159 0 23 (dk_at dksX3_isThere_0 5 rfl rfl)
theorem dX3_isThere_8 : decode cX3_isThere 8 = .ok (.aload_n 0, 1) := dk_42 (dk_at dksX3_isThere_0 8 rfl rfl)
theorem dX3_isThere_9 : decode cX3_isThere 9 = .ok (.getfield 9, 3) := dk_180 0 9 (dk_at dksX3_isThere_0 9 rfl rfl)
theorem dX3_isThere_12 : decode cX3_isThere 12 = .ok (.bipush 20, 2) := dk_16 20 (dk_at dksX3_isThere_0 12 rfl rfl)
theorem dX3_isThere_14 : decode cX3_isThere 14 = .ok (.iload_n 1, 1) := dk_27 (dk_at dksX3_isThere_0 14 rfl rfl)
theorem dX3_isThere_15 : decode cX3_isThere 15 = .ok (.iadd, 1) := dk_96 (dk_at dksX3_isThere_0 15 rfl rfl)
theorem dX3_isThere_16 : decode cX3_isThere 16 = .ok (.iaload, 1) := dk_46 (dk_at dksX3_isThere_0 16 rfl rfl)
theorem dX3_isThere_17 : decode cX3_isThere 17 = .ok (.aload_n 0, 1) := dk_42 (dk_at dksX3_isThere_0 17 rfl rfl)
theorem dX3_isThere_18 : decode cX3_isThere 18 = .ok (.getfield 289, 3) := dk_180 1 33 (dk_at dksX3_isThere_0 18 rfl rfl)
theorem dX3_isThere_21 : decode cX3_isThere 21 = .ok (.if_icmp .gt 7, 3) := dk_163 0 7 (dk_at dksX3_isThere_0 21 rfl rfl)
theorem dX3_isThere_24 : decode cX3_isThere 24 = .ok (.iconst 1, 1) := dk_4 (dk_at dksX3_isThere_1 0 rfl rfl)
theorem dX3_isThere_25 : decode cX3_isThere 25 = .ok (.goto 4, 3) := dk_167 0 4 (dk_at dksX3_isThere_1 1 rfl rfl)
theorem dX3_isThere_28 : decode cX3_isThere 28 = .ok (.iconst 0, 1) := dk_3 (dk_at dksX3_isThere_1 4 rfl rfl)
theorem dX3_isThere_29 : decode cX3_isThere 29 = .ok (.ireturn, 1) := dk_172 (dk_at dksX3_isThere_1 5 rfl rfl)
abbrev cX3_knows : ByteArray := prog_34_method_36_code
def yX3_knows : MethodName := ⟨RX3, "knows", "(II)Z"⟩
def dkwX3_knows_0 : List UInt8 := [42, 180, 0, 31, 28, 46, 27, 122, 4, 126, 4, 160, 0, 7, 4, 167, 0, 4, 3, 172]
abbrev dktX3_knows_0 : List UInt8 := dkwX3_knows_0 ++ []
theorem dksX3_knows_0 : cX3_knows.data.toList.drop 0 = dktX3_knows_0 := by decide +kernel
theorem dX3_knows_0 : decode cX3_knows 0 = .ok (.aload_n 0, 1) := dk_42 (dk_at dksX3_knows_0 0 rfl rfl)
theorem dX3_knows_1 : decode cX3_knows 1 = .ok (.getfield 31, 3) := dk_180 0 31 (dk_at dksX3_knows_0 1 rfl rfl)
theorem dX3_knows_4 : decode cX3_knows 4 = .ok (.iload_n 2, 1) := dk_28 (dk_at dksX3_knows_0 4 rfl rfl)
theorem dX3_knows_5 : decode cX3_knows 5 = .ok (.iaload, 1) := dk_46 (dk_at dksX3_knows_0 5 rfl rfl)
theorem dX3_knows_6 : decode cX3_knows 6 = .ok (.iload_n 1, 1) := dk_27 (dk_at dksX3_knows_0 6 rfl rfl)
theorem dX3_knows_7 : decode cX3_knows 7 = .ok (.ishr, 1) := dk_122 (dk_at dksX3_knows_0 7 rfl rfl)
theorem dX3_knows_8 : decode cX3_knows 8 = .ok (.iconst 1, 1) := dk_4 (dk_at dksX3_knows_0 8 rfl rfl)
theorem dX3_knows_9 : decode cX3_knows 9 = .ok (.iand, 1) := dk_126 (dk_at dksX3_knows_0 9 rfl rfl)
theorem dX3_knows_10 : decode cX3_knows 10 = .ok (.iconst 1, 1) := dk_4 (dk_at dksX3_knows_0 10 rfl rfl)
theorem dX3_knows_11 : decode cX3_knows 11 = .ok (.if_icmp .ne 7, 3) := dk_160 0 7 (dk_at dksX3_knows_0 11 rfl rfl)
theorem dX3_knows_14 : decode cX3_knows 14 = .ok (.iconst 1, 1) := dk_4 (dk_at dksX3_knows_0 14 rfl rfl)
theorem dX3_knows_15 : decode cX3_knows 15 = .ok (.goto 4, 3) := dk_167 0 4 (dk_at dksX3_knows_0 15 rfl rfl)
theorem dX3_knows_18 : decode cX3_knows 18 = .ok (.iconst 0, 1) := dk_3 (dk_at dksX3_knows_0 18 rfl rfl)
theorem dX3_knows_19 : decode cX3_knows 19 = .ok (.ireturn, 1) := dk_172 (dk_at dksX3_knows_0 19 rfl rfl)
abbrev cX3_unsaid : ByteArray := prog_34_method_38_code
def yX3_unsaid : MethodName := ⟨RX3, "unsaid", "(II)I"⟩
def dkwX3_unsaid_2 : List UInt8 := [167, 0, 4, 3, 96, 62, 132, 4, 1, 167, 255, 206, 29, 172]
abbrev dktX3_unsaid_2 : List UInt8 := dkwX3_unsaid_2 ++ []
def dkwX3_unsaid_1 : List UInt8 := [160, 0, 26, 42, 27, 21, 4, 182, 1, 36, 153, 0, 16, 42, 21, 4, 182, 1, 40, 154, 0, 7, 4]
abbrev dktX3_unsaid_1 : List UInt8 := dkwX3_unsaid_1 ++ dktX3_unsaid_2
def dkwX3_unsaid_0 : List UInt8 := [3, 62, 3, 54, 4, 21, 4, 42, 180, 0, 169, 162, 0, 47, 29, 42, 180, 0, 25, 21, 4, 46, 28]
abbrev dktX3_unsaid_0 : List UInt8 := dkwX3_unsaid_0 ++ dktX3_unsaid_1
theorem dksX3_unsaid_0 : cX3_unsaid.data.toList.drop 0 = dktX3_unsaid_0 := by decide +kernel
theorem dksX3_unsaid_1 : cX3_unsaid.data.toList.drop 23 = dktX3_unsaid_1 := dk_seg dksX3_unsaid_0 23 rfl rfl
theorem dksX3_unsaid_2 : cX3_unsaid.data.toList.drop 46 = dktX3_unsaid_2 := dk_seg dksX3_unsaid_1 23 rfl rfl
theorem dX3_unsaid_0 : decode cX3_unsaid 0 = .ok (.iconst 0, 1) := dk_3 (dk_at dksX3_unsaid_0 0 rfl rfl)
theorem dX3_unsaid_1 : decode cX3_unsaid 1 = .ok (.istore_n 3, 1) := dk_62 (dk_at dksX3_unsaid_0 1 rfl rfl)
theorem dX3_unsaid_2 : decode cX3_unsaid 2 = .ok (.iconst 0, 1) := dk_3 (dk_at dksX3_unsaid_0 2 rfl rfl)
theorem dX3_unsaid_3 : decode cX3_unsaid 3 = .ok (.istore 4, 2) := dk_54 4 (dk_at dksX3_unsaid_0 3 rfl rfl)
theorem dX3_unsaid_5 : decode cX3_unsaid 5 = .ok (.iload 4, 2) := dk_21 4 (dk_at dksX3_unsaid_0 5 rfl rfl)
theorem dX3_unsaid_7 : decode cX3_unsaid 7 = .ok (.aload_n 0, 1) := dk_42 (dk_at dksX3_unsaid_0 7 rfl rfl)
theorem dX3_unsaid_8 : decode cX3_unsaid 8 = .ok (.getfield 169, 3) := dk_180 0 169 (dk_at dksX3_unsaid_0 8 rfl rfl)
theorem dX3_unsaid_11 : decode cX3_unsaid 11 = .ok (.if_icmp .ge 47, 3) := dk_162 0 47 (dk_at dksX3_unsaid_0 11 rfl rfl)
theorem dX3_unsaid_14 : decode cX3_unsaid 14 = .ok (.iload_n 3, 1) := dk_29 (dk_at dksX3_unsaid_0 14 rfl rfl)
theorem dX3_unsaid_15 : decode cX3_unsaid 15 = .ok (.aload_n 0, 1) := dk_42 (dk_at dksX3_unsaid_0 15 rfl rfl)
theorem dX3_unsaid_16 : decode cX3_unsaid 16 = .ok (.getfield 25, 3) := dk_180 0 25 (dk_at dksX3_unsaid_0 16 rfl rfl)
theorem dX3_unsaid_19 : decode cX3_unsaid 19 = .ok (.iload 4, 2) := dk_21 4 (dk_at dksX3_unsaid_0 19 rfl rfl)
theorem dX3_unsaid_21 : decode cX3_unsaid 21 = .ok (.iaload, 1) := dk_46 (dk_at dksX3_unsaid_0 21 rfl rfl)
theorem dX3_unsaid_22 : decode cX3_unsaid 22 = .ok (.iload_n 2, 1) := dk_28 (dk_at dksX3_unsaid_0 22 rfl rfl)
theorem dX3_unsaid_23 : decode cX3_unsaid 23 = .ok (.if_icmp .ne 26, 3) := dk_160 0 26 (dk_at dksX3_unsaid_1 0 rfl rfl)
theorem dX3_unsaid_26 : decode cX3_unsaid 26 = .ok (.aload_n 0, 1) := dk_42 (dk_at dksX3_unsaid_1 3 rfl rfl)
theorem dX3_unsaid_27 : decode cX3_unsaid 27 = .ok (.iload_n 1, 1) := dk_27 (dk_at dksX3_unsaid_1 4 rfl rfl)
theorem dX3_unsaid_28 : decode cX3_unsaid 28 = .ok (.iload 4, 2) := dk_21 4 (dk_at dksX3_unsaid_1 5 rfl rfl)
theorem dX3_unsaid_30 : decode cX3_unsaid 30 = .ok (.invokevirtual 292, 3) := dk_182 1 36 (dk_at dksX3_unsaid_1 7 rfl rfl)
theorem dX3_unsaid_33 : decode cX3_unsaid 33 = .ok (.ifCond .eq 16, 3) := dk_153 0 16 (dk_at dksX3_unsaid_1 10 rfl rfl)
theorem dX3_unsaid_36 : decode cX3_unsaid 36 = .ok (.aload_n 0, 1) := dk_42 (dk_at dksX3_unsaid_1 13 rfl rfl)
theorem dX3_unsaid_37 : decode cX3_unsaid 37 = .ok (.iload 4, 2) := dk_21 4 (dk_at dksX3_unsaid_1 14 rfl rfl)
theorem dX3_unsaid_39 : decode cX3_unsaid 39 = .ok (.invokevirtual 296, 3) := dk_182 1 40 (dk_at dksX3_unsaid_1 16 rfl rfl)
theorem dX3_unsaid_42 : decode cX3_unsaid 42 = .ok (.ifCond .ne 7, 3) := dk_154 0 7 (dk_at dksX3_unsaid_1 19 rfl rfl)
theorem dX3_unsaid_45 : decode cX3_unsaid 45 = .ok (.iconst 1, 1) := dk_4 (dk_at dksX3_unsaid_1 22 rfl rfl)
theorem dX3_unsaid_46 : decode cX3_unsaid 46 = .ok (.goto 4, 3) := dk_167 0 4 (dk_at dksX3_unsaid_2 0 rfl rfl)
theorem dX3_unsaid_49 : decode cX3_unsaid 49 = .ok (.iconst 0, 1) := dk_3 (dk_at dksX3_unsaid_2 3 rfl rfl)
theorem dX3_unsaid_50 : decode cX3_unsaid 50 = .ok (.iadd, 1) := dk_96 (dk_at dksX3_unsaid_2 4 rfl rfl)
theorem dX3_unsaid_51 : decode cX3_unsaid 51 = .ok (.istore_n 3, 1) := dk_62 (dk_at dksX3_unsaid_2 5 rfl rfl)
theorem dX3_unsaid_52 : decode cX3_unsaid 52 = .ok (.iinc 4 1, 3) := dk_132 4 1 (dk_at dksX3_unsaid_2 6 rfl rfl)
theorem dX3_unsaid_55 : decode cX3_unsaid 55 = .ok (.goto (-50), 3) := dk_167 255 206 (dk_at dksX3_unsaid_2 9 rfl rfl)
theorem dX3_unsaid_58 : decode cX3_unsaid 58 = .ok (.iload_n 3, 1) := dk_29 (dk_at dksX3_unsaid_2 12 rfl rfl)
theorem dX3_unsaid_59 : decode cX3_unsaid 59 = .ok (.ireturn, 1) := dk_172 (dk_at dksX3_unsaid_2 13 rfl rfl)
abbrev cX3_wishOf : ByteArray := prog_34_method_39_code
def yX3_wishOf : MethodName := ⟨RX3, "wishOf", "(IIIIII)I"⟩
def dkwX3_wishOf_5 : List UInt8 := [180, 0, 143, 182, 1, 21, 172]
abbrev dktX3_wishOf_5 : List UInt8 := dkwX3_wishOf_5 ++ []
def dkwX3_wishOf_4 : List UInt8 := [21, 5, 79, 42, 180, 0, 40, 16, 6, 27, 79, 42, 180, 0, 40, 16, 7, 21, 6, 79, 42, 3, 42]
abbrev dktX3_wishOf_4 : List UInt8 := dkwX3_wishOf_4 ++ dktX3_wishOf_5
def dkwX3_wishOf_3 : List UInt8 := [21, 7, 79, 42, 180, 0, 40, 6, 29, 79, 42, 180, 0, 40, 7, 21, 4, 79, 42, 180, 0, 40, 8]
abbrev dktX3_wishOf_3 : List UInt8 := dkwX3_wishOf_3 ++ dktX3_wishOf_4
def dkwX3_wishOf_2 : List UInt8 := [180, 0, 40, 3, 42, 180, 0, 9, 27, 46, 79, 42, 180, 0, 40, 4, 21, 8, 79, 42, 180, 0, 40, 5]
abbrev dktX3_wishOf_2 : List UInt8 := dkwX3_wishOf_2 ++ dktX3_wishOf_3
def dkwX3_wishOf_1 : List UInt8 := [180, 0, 143, 156, 0, 19, 16, 10, 29, 104, 21, 7, 96, 21, 8, 96, 8, 21, 4, 104, 100, 172, 42]
abbrev dktX3_wishOf_1 : List UInt8 := dkwX3_wishOf_1 ++ dktX3_wishOf_2
def dkwX3_wishOf_0 : List UInt8 := [42, 180, 0, 9, 16, 36, 28, 96, 46, 54, 7, 42, 180, 0, 9, 16, 10, 27, 96, 46, 54, 8, 42]
abbrev dktX3_wishOf_0 : List UInt8 := dkwX3_wishOf_0 ++ dktX3_wishOf_1
theorem dksX3_wishOf_0 : cX3_wishOf.data.toList.drop 0 = dktX3_wishOf_0 := by decide +kernel
theorem dksX3_wishOf_1 : cX3_wishOf.data.toList.drop 23 = dktX3_wishOf_1 := dk_seg dksX3_wishOf_0 23 rfl rfl
theorem dksX3_wishOf_2 : cX3_wishOf.data.toList.drop 46 = dktX3_wishOf_2 := dk_seg dksX3_wishOf_1 23 rfl rfl
theorem dksX3_wishOf_3 : cX3_wishOf.data.toList.drop 70 = dktX3_wishOf_3 := dk_seg dksX3_wishOf_2 24 rfl rfl
theorem dksX3_wishOf_4 : cX3_wishOf.data.toList.drop 93 = dktX3_wishOf_4 := dk_seg dksX3_wishOf_3 23 rfl rfl
theorem dksX3_wishOf_5 : cX3_wishOf.data.toList.drop 116 = dktX3_wishOf_5 := dk_seg dksX3_wishOf_4 23 rfl rfl
theorem dX3_wishOf_0 : decode cX3_wishOf 0 = .ok (.aload_n 0, 1) := dk_42 (dk_at dksX3_wishOf_0 0 rfl rfl)
theorem dX3_wishOf_1 : decode cX3_wishOf 1 = .ok (.getfield 9, 3) := dk_180 0 9 (dk_at dksX3_wishOf_0 1 rfl rfl)
theorem dX3_wishOf_4 : decode cX3_wishOf 4 = .ok (.bipush 36, 2) := dk_16 36 (dk_at dksX3_wishOf_0 4 rfl rfl)
theorem dX3_wishOf_6 : decode cX3_wishOf 6 = .ok (.iload_n 2, 1) := dk_28 (dk_at dksX3_wishOf_0 6 rfl rfl)
theorem dX3_wishOf_7 : decode cX3_wishOf 7 = .ok (.iadd, 1) := dk_96 (dk_at dksX3_wishOf_0 7 rfl rfl)
theorem dX3_wishOf_8 : decode cX3_wishOf 8 = .ok (.iaload, 1) := dk_46 (dk_at dksX3_wishOf_0 8 rfl rfl)
theorem dX3_wishOf_9 : decode cX3_wishOf 9 = .ok (.istore 7, 2) := dk_54 7 (dk_at dksX3_wishOf_0 9 rfl rfl)
theorem dX3_wishOf_11 : decode cX3_wishOf 11 = .ok (.aload_n 0, 1) := dk_42 (dk_at dksX3_wishOf_0 11 rfl rfl)
theorem dX3_wishOf_12 : decode cX3_wishOf 12 = .ok (.getfield 9, 3) := dk_180 0 9 (dk_at dksX3_wishOf_0 12 rfl rfl)
theorem dX3_wishOf_15 : decode cX3_wishOf 15 = .ok (.bipush 10, 2) := dk_16 10 (dk_at dksX3_wishOf_0 15 rfl rfl)
theorem dX3_wishOf_17 : decode cX3_wishOf 17 = .ok (.iload_n 1, 1) := dk_27 (dk_at dksX3_wishOf_0 17 rfl rfl)
theorem dX3_wishOf_18 : decode cX3_wishOf 18 = .ok (.iadd, 1) := dk_96 (dk_at dksX3_wishOf_0 18 rfl rfl)
theorem dX3_wishOf_19 : decode cX3_wishOf 19 = .ok (.iaload, 1) := dk_46 (dk_at dksX3_wishOf_0 19 rfl rfl)
theorem dX3_wishOf_20 : decode cX3_wishOf 20 = .ok (.istore 8, 2) := dk_54 8 (dk_at dksX3_wishOf_0 20 rfl rfl)
theorem dX3_wishOf_22 : decode cX3_wishOf 22 = .ok (.aload_n 0, 1) := dk_42 (dk_at dksX3_wishOf_0 22 rfl rfl)
theorem dX3_wishOf_23 : decode cX3_wishOf 23 = .ok (.getfield 143, 3) := dk_180 0 143 (dk_at dksX3_wishOf_1 0 rfl rfl)
theorem dX3_wishOf_26 : decode cX3_wishOf 26 = .ok (.ifCond .ge 19, 3) := dk_156 0 19 (dk_at dksX3_wishOf_1 3 rfl rfl)
theorem dX3_wishOf_29 : decode cX3_wishOf 29 = .ok (.bipush 10, 2) := dk_16 10 (dk_at dksX3_wishOf_1 6 rfl rfl)
theorem dX3_wishOf_31 : decode cX3_wishOf 31 = .ok (.iload_n 3, 1) := dk_29 (dk_at dksX3_wishOf_1 8 rfl rfl)
theorem dX3_wishOf_32 : decode cX3_wishOf 32 = .ok (.imul, 1) := dk_104 (dk_at dksX3_wishOf_1 9 rfl rfl)
theorem dX3_wishOf_33 : decode cX3_wishOf 33 = .ok (.iload 7, 2) := dk_21 7 (dk_at dksX3_wishOf_1 10 rfl rfl)
theorem dX3_wishOf_35 : decode cX3_wishOf 35 = .ok (.iadd, 1) := dk_96 (dk_at dksX3_wishOf_1 12 rfl rfl)
theorem dX3_wishOf_36 : decode cX3_wishOf 36 = .ok (.iload 8, 2) := dk_21 8 (dk_at dksX3_wishOf_1 13 rfl rfl)
theorem dX3_wishOf_38 : decode cX3_wishOf 38 = .ok (.iadd, 1) := dk_96 (dk_at dksX3_wishOf_1 15 rfl rfl)
theorem dX3_wishOf_39 : decode cX3_wishOf 39 = .ok (.iconst 5, 1) := dk_8 (dk_at dksX3_wishOf_1 16 rfl rfl)
theorem dX3_wishOf_40 : decode cX3_wishOf 40 = .ok (.iload 4, 2) := dk_21 4 (dk_at dksX3_wishOf_1 17 rfl rfl)
theorem dX3_wishOf_42 : decode cX3_wishOf 42 = .ok (.imul, 1) := dk_104 (dk_at dksX3_wishOf_1 19 rfl rfl)
theorem dX3_wishOf_43 : decode cX3_wishOf 43 = .ok (.isub, 1) := dk_100 (dk_at dksX3_wishOf_1 20 rfl rfl)
theorem dX3_wishOf_44 : decode cX3_wishOf 44 = .ok (.ireturn, 1) := dk_172 (dk_at dksX3_wishOf_1 21 rfl rfl)
theorem dX3_wishOf_45 : decode cX3_wishOf 45 = .ok (.aload_n 0, 1) := dk_42 (dk_at dksX3_wishOf_1 22 rfl rfl)
theorem dX3_wishOf_46 : decode cX3_wishOf 46 = .ok (.getfield 40, 3) := dk_180 0 40 (dk_at dksX3_wishOf_2 0 rfl rfl)
theorem dX3_wishOf_49 : decode cX3_wishOf 49 = .ok (.iconst 0, 1) := dk_3 (dk_at dksX3_wishOf_2 3 rfl rfl)
theorem dX3_wishOf_50 : decode cX3_wishOf 50 = .ok (.aload_n 0, 1) := dk_42 (dk_at dksX3_wishOf_2 4 rfl rfl)
theorem dX3_wishOf_51 : decode cX3_wishOf 51 = .ok (.getfield 9, 3) := dk_180 0 9 (dk_at dksX3_wishOf_2 5 rfl rfl)
theorem dX3_wishOf_54 : decode cX3_wishOf 54 = .ok (.iload_n 1, 1) := dk_27 (dk_at dksX3_wishOf_2 8 rfl rfl)
theorem dX3_wishOf_55 : decode cX3_wishOf 55 = .ok (.iaload, 1) := dk_46 (dk_at dksX3_wishOf_2 9 rfl rfl)
theorem dX3_wishOf_56 : decode cX3_wishOf 56 = .ok (.iastore, 1) := dk_79 (dk_at dksX3_wishOf_2 10 rfl rfl)
theorem dX3_wishOf_57 : decode cX3_wishOf 57 = .ok (.aload_n 0, 1) := dk_42 (dk_at dksX3_wishOf_2 11 rfl rfl)
theorem dX3_wishOf_58 : decode cX3_wishOf 58 = .ok (.getfield 40, 3) := dk_180 0 40 (dk_at dksX3_wishOf_2 12 rfl rfl)
theorem dX3_wishOf_61 : decode cX3_wishOf 61 = .ok (.iconst 1, 1) := dk_4 (dk_at dksX3_wishOf_2 15 rfl rfl)
theorem dX3_wishOf_62 : decode cX3_wishOf 62 = .ok (.iload 8, 2) := dk_21 8 (dk_at dksX3_wishOf_2 16 rfl rfl)
theorem dX3_wishOf_64 : decode cX3_wishOf 64 = .ok (.iastore, 1) := dk_79 (dk_at dksX3_wishOf_2 18 rfl rfl)
theorem dX3_wishOf_65 : decode cX3_wishOf 65 = .ok (.aload_n 0, 1) := dk_42 (dk_at dksX3_wishOf_2 19 rfl rfl)
theorem dX3_wishOf_66 : decode cX3_wishOf 66 = .ok (.getfield 40, 3) := dk_180 0 40 (dk_at dksX3_wishOf_2 20 rfl rfl)
theorem dX3_wishOf_69 : decode cX3_wishOf 69 = .ok (.iconst 2, 1) := dk_5 (dk_at dksX3_wishOf_2 23 rfl rfl)
theorem dX3_wishOf_70 : decode cX3_wishOf 70 = .ok (.iload 7, 2) := dk_21 7 (dk_at dksX3_wishOf_3 0 rfl rfl)
theorem dX3_wishOf_72 : decode cX3_wishOf 72 = .ok (.iastore, 1) := dk_79 (dk_at dksX3_wishOf_3 2 rfl rfl)
theorem dX3_wishOf_73 : decode cX3_wishOf 73 = .ok (.aload_n 0, 1) := dk_42 (dk_at dksX3_wishOf_3 3 rfl rfl)
theorem dX3_wishOf_74 : decode cX3_wishOf 74 = .ok (.getfield 40, 3) := dk_180 0 40 (dk_at dksX3_wishOf_3 4 rfl rfl)
theorem dX3_wishOf_77 : decode cX3_wishOf 77 = .ok (.iconst 3, 1) := dk_6 (dk_at dksX3_wishOf_3 7 rfl rfl)
theorem dX3_wishOf_78 : decode cX3_wishOf 78 = .ok (.iload_n 3, 1) := dk_29 (dk_at dksX3_wishOf_3 8 rfl rfl)
theorem dX3_wishOf_79 : decode cX3_wishOf 79 = .ok (.iastore, 1) := dk_79 (dk_at dksX3_wishOf_3 9 rfl rfl)
theorem dX3_wishOf_80 : decode cX3_wishOf 80 = .ok (.aload_n 0, 1) := dk_42 (dk_at dksX3_wishOf_3 10 rfl rfl)
theorem dX3_wishOf_81 : decode cX3_wishOf 81 = .ok (.getfield 40, 3) := dk_180 0 40 (dk_at dksX3_wishOf_3 11 rfl rfl)
theorem dX3_wishOf_84 : decode cX3_wishOf 84 = .ok (.iconst 4, 1) := dk_7 (dk_at dksX3_wishOf_3 14 rfl rfl)
theorem dX3_wishOf_85 : decode cX3_wishOf 85 = .ok (.iload 4, 2) := dk_21 4 (dk_at dksX3_wishOf_3 15 rfl rfl)
theorem dX3_wishOf_87 : decode cX3_wishOf 87 = .ok (.iastore, 1) := dk_79 (dk_at dksX3_wishOf_3 17 rfl rfl)
theorem dX3_wishOf_88 : decode cX3_wishOf 88 = .ok (.aload_n 0, 1) := dk_42 (dk_at dksX3_wishOf_3 18 rfl rfl)
theorem dX3_wishOf_89 : decode cX3_wishOf 89 = .ok (.getfield 40, 3) := dk_180 0 40 (dk_at dksX3_wishOf_3 19 rfl rfl)
theorem dX3_wishOf_92 : decode cX3_wishOf 92 = .ok (.iconst 5, 1) := dk_8 (dk_at dksX3_wishOf_3 22 rfl rfl)
theorem dX3_wishOf_93 : decode cX3_wishOf 93 = .ok (.iload 5, 2) := dk_21 5 (dk_at dksX3_wishOf_4 0 rfl rfl)
theorem dX3_wishOf_95 : decode cX3_wishOf 95 = .ok (.iastore, 1) := dk_79 (dk_at dksX3_wishOf_4 2 rfl rfl)
theorem dX3_wishOf_96 : decode cX3_wishOf 96 = .ok (.aload_n 0, 1) := dk_42 (dk_at dksX3_wishOf_4 3 rfl rfl)
theorem dX3_wishOf_97 : decode cX3_wishOf 97 = .ok (.getfield 40, 3) := dk_180 0 40 (dk_at dksX3_wishOf_4 4 rfl rfl)
theorem dX3_wishOf_100 : decode cX3_wishOf 100 = .ok (.bipush 6, 2) := dk_16 6 (dk_at dksX3_wishOf_4 7 rfl rfl)
theorem dX3_wishOf_102 : decode cX3_wishOf 102 = .ok (.iload_n 1, 1) := dk_27 (dk_at dksX3_wishOf_4 9 rfl rfl)
theorem dX3_wishOf_103 : decode cX3_wishOf 103 = .ok (.iastore, 1) := dk_79 (dk_at dksX3_wishOf_4 10 rfl rfl)
theorem dX3_wishOf_104 : decode cX3_wishOf 104 = .ok (.aload_n 0, 1) := dk_42 (dk_at dksX3_wishOf_4 11 rfl rfl)
theorem dX3_wishOf_105 : decode cX3_wishOf 105 = .ok (.getfield 40, 3) := dk_180 0 40 (dk_at dksX3_wishOf_4 12 rfl rfl)
theorem dX3_wishOf_108 : decode cX3_wishOf 108 = .ok (.bipush 7, 2) := dk_16 7 (dk_at dksX3_wishOf_4 15 rfl rfl)
theorem dX3_wishOf_110 : decode cX3_wishOf 110 = .ok (.iload 6, 2) := dk_21 6 (dk_at dksX3_wishOf_4 17 rfl rfl)
theorem dX3_wishOf_112 : decode cX3_wishOf 112 = .ok (.iastore, 1) := dk_79 (dk_at dksX3_wishOf_4 19 rfl rfl)
theorem dX3_wishOf_113 : decode cX3_wishOf 113 = .ok (.aload_n 0, 1) := dk_42 (dk_at dksX3_wishOf_4 20 rfl rfl)
theorem dX3_wishOf_114 : decode cX3_wishOf 114 = .ok (.iconst 0, 1) := dk_3 (dk_at dksX3_wishOf_4 21 rfl rfl)
theorem dX3_wishOf_115 : decode cX3_wishOf 115 = .ok (.aload_n 0, 1) := dk_42 (dk_at dksX3_wishOf_4 22 rfl rfl)
theorem dX3_wishOf_116 : decode cX3_wishOf 116 = .ok (.getfield 143, 3) := dk_180 0 143 (dk_at dksX3_wishOf_5 0 rfl rfl)
theorem dX3_wishOf_119 : decode cX3_wishOf 119 = .ok (.invokevirtual 277, 3) := dk_182 1 21 (dk_at dksX3_wishOf_5 3 rfl rfl)
theorem dX3_wishOf_122 : decode cX3_wishOf 122 = .ok (.ireturn, 1) := dk_172 (dk_at dksX3_wishOf_5 6 rfl rfl)
abbrev cX3_nextSpeaker : ByteArray := prog_34_method_45_code
def yX3_nextSpeaker : MethodName := ⟨RX3, "nextSpeaker", "()I"⟩
def dkwX3_nextSpeaker_4 : List UInt8 := [4, 3, 182, 1, 52, 172]
abbrev dktX3_nextSpeaker_4 : List UInt8 := dkwX3_nextSpeaker_4 ++ []
def dkwX3_nextSpeaker_3 : List UInt8 := [182, 1, 46, 153, 0, 10, 42, 180, 1, 49, 167, 0, 7, 42, 182, 1, 56, 172, 42, 182, 1, 62, 172, 42]
abbrev dktX3_nextSpeaker_3 : List UInt8 := dkwX3_nextSpeaker_3 ++ dktX3_nextSpeaker_4
def dkwX3_nextSpeaker_2 : List UInt8 := [42, 182, 1, 56, 172, 42, 182, 1, 59, 172, 42, 180, 1, 49, 155, 0, 21, 42, 42, 180, 1, 49]
abbrev dktX3_nextSpeaker_2 : List UInt8 := dkwX3_nextSpeaker_2 ++ dktX3_nextSpeaker_3
def dkwX3_nextSpeaker_1 : List UInt8 := [170, 0, 0, 0, 0, 0, 0, 77, 0, 0, 0, 1, 0, 0, 0, 4, 0, 0, 0, 32, 0, 0, 0, 37, 0, 0, 0, 42, 0, 0, 0, 72]
abbrev dktX3_nextSpeaker_1 : List UInt8 := dkwX3_nextSpeaker_1 ++ dktX3_nextSpeaker_2
def dkwX3_nextSpeaker_0 : List UInt8 := [42, 180, 1, 24]
abbrev dktX3_nextSpeaker_0 : List UInt8 := dkwX3_nextSpeaker_0 ++ dktX3_nextSpeaker_1
theorem dksX3_nextSpeaker_0 : cX3_nextSpeaker.data.toList.drop 0 = dktX3_nextSpeaker_0 := by decide +kernel
theorem dksX3_nextSpeaker_1 : cX3_nextSpeaker.data.toList.drop 4 = dktX3_nextSpeaker_1 := dk_seg dksX3_nextSpeaker_0 4 rfl rfl
theorem dksX3_nextSpeaker_2 : cX3_nextSpeaker.data.toList.drop 36 = dktX3_nextSpeaker_2 := dk_seg dksX3_nextSpeaker_1 32 rfl rfl
theorem dksX3_nextSpeaker_3 : cX3_nextSpeaker.data.toList.drop 58 = dktX3_nextSpeaker_3 := dk_seg dksX3_nextSpeaker_2 22 rfl rfl
theorem dksX3_nextSpeaker_4 : cX3_nextSpeaker.data.toList.drop 82 = dktX3_nextSpeaker_4 := dk_seg dksX3_nextSpeaker_3 24 rfl rfl
theorem dX3_nextSpeaker_0 : decode cX3_nextSpeaker 0 = .ok (.aload_n 0, 1) := dk_42 (dk_at dksX3_nextSpeaker_0 0 rfl rfl)
theorem dX3_nextSpeaker_1 : decode cX3_nextSpeaker 1 = .ok (.getfield 280, 3) := dk_180 1 24 (dk_at dksX3_nextSpeaker_0 1 rfl rfl)
theorem dX3_nextSpeaker_4 : decode cX3_nextSpeaker 4 = .ok (.tableswitch 77 1 4 #[32, 37, 42, 72], 32) := by decide +kernel
theorem dX3_nextSpeaker_36 : decode cX3_nextSpeaker 36 = .ok (.aload_n 0, 1) := dk_42 (dk_at dksX3_nextSpeaker_2 0 rfl rfl)
theorem dX3_nextSpeaker_37 : decode cX3_nextSpeaker 37 = .ok (.invokevirtual 312, 3) := dk_182 1 56 (dk_at dksX3_nextSpeaker_2 1 rfl rfl)
theorem dX3_nextSpeaker_40 : decode cX3_nextSpeaker 40 = .ok (.ireturn, 1) := dk_172 (dk_at dksX3_nextSpeaker_2 4 rfl rfl)
theorem dX3_nextSpeaker_41 : decode cX3_nextSpeaker 41 = .ok (.aload_n 0, 1) := dk_42 (dk_at dksX3_nextSpeaker_2 5 rfl rfl)
theorem dX3_nextSpeaker_42 : decode cX3_nextSpeaker 42 = .ok (.invokevirtual 315, 3) := dk_182 1 59 (dk_at dksX3_nextSpeaker_2 6 rfl rfl)
theorem dX3_nextSpeaker_45 : decode cX3_nextSpeaker 45 = .ok (.ireturn, 1) := dk_172 (dk_at dksX3_nextSpeaker_2 9 rfl rfl)
theorem dX3_nextSpeaker_46 : decode cX3_nextSpeaker 46 = .ok (.aload_n 0, 1) := dk_42 (dk_at dksX3_nextSpeaker_2 10 rfl rfl)
theorem dX3_nextSpeaker_47 : decode cX3_nextSpeaker 47 = .ok (.getfield 305, 3) := dk_180 1 49 (dk_at dksX3_nextSpeaker_2 11 rfl rfl)
theorem dX3_nextSpeaker_50 : decode cX3_nextSpeaker 50 = .ok (.ifCond .lt 21, 3) := dk_155 0 21 (dk_at dksX3_nextSpeaker_2 14 rfl rfl)
theorem dX3_nextSpeaker_53 : decode cX3_nextSpeaker 53 = .ok (.aload_n 0, 1) := dk_42 (dk_at dksX3_nextSpeaker_2 17 rfl rfl)
theorem dX3_nextSpeaker_54 : decode cX3_nextSpeaker 54 = .ok (.aload_n 0, 1) := dk_42 (dk_at dksX3_nextSpeaker_2 18 rfl rfl)
theorem dX3_nextSpeaker_55 : decode cX3_nextSpeaker 55 = .ok (.getfield 305, 3) := dk_180 1 49 (dk_at dksX3_nextSpeaker_2 19 rfl rfl)
theorem dX3_nextSpeaker_58 : decode cX3_nextSpeaker 58 = .ok (.invokevirtual 302, 3) := dk_182 1 46 (dk_at dksX3_nextSpeaker_3 0 rfl rfl)
theorem dX3_nextSpeaker_61 : decode cX3_nextSpeaker 61 = .ok (.ifCond .eq 10, 3) := dk_153 0 10 (dk_at dksX3_nextSpeaker_3 3 rfl rfl)
theorem dX3_nextSpeaker_64 : decode cX3_nextSpeaker 64 = .ok (.aload_n 0, 1) := dk_42 (dk_at dksX3_nextSpeaker_3 6 rfl rfl)
theorem dX3_nextSpeaker_65 : decode cX3_nextSpeaker 65 = .ok (.getfield 305, 3) := dk_180 1 49 (dk_at dksX3_nextSpeaker_3 7 rfl rfl)
theorem dX3_nextSpeaker_68 : decode cX3_nextSpeaker 68 = .ok (.goto 7, 3) := dk_167 0 7 (dk_at dksX3_nextSpeaker_3 10 rfl rfl)
theorem dX3_nextSpeaker_71 : decode cX3_nextSpeaker 71 = .ok (.aload_n 0, 1) := dk_42 (dk_at dksX3_nextSpeaker_3 13 rfl rfl)
theorem dX3_nextSpeaker_72 : decode cX3_nextSpeaker 72 = .ok (.invokevirtual 312, 3) := dk_182 1 56 (dk_at dksX3_nextSpeaker_3 14 rfl rfl)
theorem dX3_nextSpeaker_75 : decode cX3_nextSpeaker 75 = .ok (.ireturn, 1) := dk_172 (dk_at dksX3_nextSpeaker_3 17 rfl rfl)
theorem dX3_nextSpeaker_76 : decode cX3_nextSpeaker 76 = .ok (.aload_n 0, 1) := dk_42 (dk_at dksX3_nextSpeaker_3 18 rfl rfl)
theorem dX3_nextSpeaker_77 : decode cX3_nextSpeaker 77 = .ok (.invokevirtual 318, 3) := dk_182 1 62 (dk_at dksX3_nextSpeaker_3 19 rfl rfl)
theorem dX3_nextSpeaker_80 : decode cX3_nextSpeaker 80 = .ok (.ireturn, 1) := dk_172 (dk_at dksX3_nextSpeaker_3 22 rfl rfl)
theorem dX3_nextSpeaker_81 : decode cX3_nextSpeaker 81 = .ok (.aload_n 0, 1) := dk_42 (dk_at dksX3_nextSpeaker_3 23 rfl rfl)
theorem dX3_nextSpeaker_82 : decode cX3_nextSpeaker 82 = .ok (.iconst 1, 1) := dk_4 (dk_at dksX3_nextSpeaker_4 0 rfl rfl)
theorem dX3_nextSpeaker_83 : decode cX3_nextSpeaker 83 = .ok (.iconst 0, 1) := dk_3 (dk_at dksX3_nextSpeaker_4 1 rfl rfl)
theorem dX3_nextSpeaker_84 : decode cX3_nextSpeaker 84 = .ok (.invokevirtual 308, 3) := dk_182 1 52 (dk_at dksX3_nextSpeaker_4 2 rfl rfl)
theorem dX3_nextSpeaker_87 : decode cX3_nextSpeaker 87 = .ok (.ireturn, 1) := dk_172 (dk_at dksX3_nextSpeaker_4 5 rfl rfl)
abbrev cX3_byTurns : ByteArray := prog_34_method_42_code
def yX3_byTurns : MethodName := ⟨RX3, "byTurns", "()I"⟩
def dkwX3_byTurns_1 : List UInt8 := [182, 1, 46, 153, 0, 5, 28, 172, 132, 1, 1, 167, 255, 223, 2, 172]
abbrev dktX3_byTurns_1 : List UInt8 := dkwX3_byTurns_1 ++ []
def dkwX3_byTurns_0 : List UInt8 := [4, 60, 27, 42, 180, 0, 159, 163, 0, 31, 42, 180, 1, 49, 27, 96, 42, 180, 0, 159, 112, 61, 42, 28]
abbrev dktX3_byTurns_0 : List UInt8 := dkwX3_byTurns_0 ++ dktX3_byTurns_1
theorem dksX3_byTurns_0 : cX3_byTurns.data.toList.drop 0 = dktX3_byTurns_0 := by decide +kernel
theorem dksX3_byTurns_1 : cX3_byTurns.data.toList.drop 24 = dktX3_byTurns_1 := dk_seg dksX3_byTurns_0 24 rfl rfl
theorem dX3_byTurns_0 : decode cX3_byTurns 0 = .ok (.iconst 1, 1) := dk_4 (dk_at dksX3_byTurns_0 0 rfl rfl)
theorem dX3_byTurns_1 : decode cX3_byTurns 1 = .ok (.istore_n 1, 1) := dk_60 (dk_at dksX3_byTurns_0 1 rfl rfl)
theorem dX3_byTurns_2 : decode cX3_byTurns 2 = .ok (.iload_n 1, 1) := dk_27 (dk_at dksX3_byTurns_0 2 rfl rfl)
theorem dX3_byTurns_3 : decode cX3_byTurns 3 = .ok (.aload_n 0, 1) := dk_42 (dk_at dksX3_byTurns_0 3 rfl rfl)
theorem dX3_byTurns_4 : decode cX3_byTurns 4 = .ok (.getfield 159, 3) := dk_180 0 159 (dk_at dksX3_byTurns_0 4 rfl rfl)
theorem dX3_byTurns_7 : decode cX3_byTurns 7 = .ok (.if_icmp .gt 31, 3) := dk_163 0 31 (dk_at dksX3_byTurns_0 7 rfl rfl)
theorem dX3_byTurns_10 : decode cX3_byTurns 10 = .ok (.aload_n 0, 1) := dk_42 (dk_at dksX3_byTurns_0 10 rfl rfl)
theorem dX3_byTurns_11 : decode cX3_byTurns 11 = .ok (.getfield 305, 3) := dk_180 1 49 (dk_at dksX3_byTurns_0 11 rfl rfl)
theorem dX3_byTurns_14 : decode cX3_byTurns 14 = .ok (.iload_n 1, 1) := dk_27 (dk_at dksX3_byTurns_0 14 rfl rfl)
theorem dX3_byTurns_15 : decode cX3_byTurns 15 = .ok (.iadd, 1) := dk_96 (dk_at dksX3_byTurns_0 15 rfl rfl)
theorem dX3_byTurns_16 : decode cX3_byTurns 16 = .ok (.aload_n 0, 1) := dk_42 (dk_at dksX3_byTurns_0 16 rfl rfl)
theorem dX3_byTurns_17 : decode cX3_byTurns 17 = .ok (.getfield 159, 3) := dk_180 0 159 (dk_at dksX3_byTurns_0 17 rfl rfl)
theorem dX3_byTurns_20 : decode cX3_byTurns 20 = .ok (.irem, 1) := dk_112 (dk_at dksX3_byTurns_0 20 rfl rfl)
theorem dX3_byTurns_21 : decode cX3_byTurns 21 = .ok (.istore_n 2, 1) := dk_61 (dk_at dksX3_byTurns_0 21 rfl rfl)
theorem dX3_byTurns_22 : decode cX3_byTurns 22 = .ok (.aload_n 0, 1) := dk_42 (dk_at dksX3_byTurns_0 22 rfl rfl)
theorem dX3_byTurns_23 : decode cX3_byTurns 23 = .ok (.iload_n 2, 1) := dk_28 (dk_at dksX3_byTurns_0 23 rfl rfl)
theorem dX3_byTurns_24 : decode cX3_byTurns 24 = .ok (.invokevirtual 302, 3) := dk_182 1 46 (dk_at dksX3_byTurns_1 0 rfl rfl)
theorem dX3_byTurns_27 : decode cX3_byTurns 27 = .ok (.ifCond .eq 5, 3) := dk_153 0 5 (dk_at dksX3_byTurns_1 3 rfl rfl)
theorem dX3_byTurns_30 : decode cX3_byTurns 30 = .ok (.iload_n 2, 1) := dk_28 (dk_at dksX3_byTurns_1 6 rfl rfl)
theorem dX3_byTurns_31 : decode cX3_byTurns 31 = .ok (.ireturn, 1) := dk_172 (dk_at dksX3_byTurns_1 7 rfl rfl)
theorem dX3_byTurns_32 : decode cX3_byTurns 32 = .ok (.iinc 1 1, 3) := dk_132 1 1 (dk_at dksX3_byTurns_1 8 rfl rfl)
theorem dX3_byTurns_35 : decode cX3_byTurns 35 = .ok (.goto (-33), 3) := dk_167 255 223 (dk_at dksX3_byTurns_1 11 rfl rfl)
theorem dX3_byTurns_38 : decode cX3_byTurns 38 = .ok (.iconst (-1), 1) := dk_2 (dk_at dksX3_byTurns_1 14 rfl rfl)
theorem dX3_byTurns_39 : decode cX3_byTurns 39 = .ok (.ireturn, 1) := dk_172 (dk_at dksX3_byTurns_1 15 rfl rfl)
abbrev cX3_wishes : ByteArray := prog_34_method_40_code
def yX3_wishes : MethodName := ⟨RX3, "wishes", "(I)Z"⟩
def dkwX3_wishes_0 : List UInt8 := [42, 27, 182, 1, 43, 153, 0, 16, 42, 180, 0, 46, 27, 46, 158, 0, 7, 4, 167, 0, 4, 3, 172]
abbrev dktX3_wishes_0 : List UInt8 := dkwX3_wishes_0 ++ []
theorem dksX3_wishes_0 : cX3_wishes.data.toList.drop 0 = dktX3_wishes_0 := by decide +kernel
theorem dX3_wishes_0 : decode cX3_wishes 0 = .ok (.aload_n 0, 1) := dk_42 (dk_at dksX3_wishes_0 0 rfl rfl)
theorem dX3_wishes_1 : decode cX3_wishes 1 = .ok (.iload_n 1, 1) := dk_27 (dk_at dksX3_wishes_0 1 rfl rfl)
theorem dX3_wishes_2 : decode cX3_wishes 2 = .ok (.invokevirtual 299, 3) := dk_182 1 43 (dk_at dksX3_wishes_0 2 rfl rfl)
theorem dX3_wishes_5 : decode cX3_wishes 5 = .ok (.ifCond .eq 16, 3) := dk_153 0 16 (dk_at dksX3_wishes_0 5 rfl rfl)
theorem dX3_wishes_8 : decode cX3_wishes 8 = .ok (.aload_n 0, 1) := dk_42 (dk_at dksX3_wishes_0 8 rfl rfl)
theorem dX3_wishes_9 : decode cX3_wishes 9 = .ok (.getfield 46, 3) := dk_180 0 46 (dk_at dksX3_wishes_0 9 rfl rfl)
theorem dX3_wishes_12 : decode cX3_wishes 12 = .ok (.iload_n 1, 1) := dk_27 (dk_at dksX3_wishes_0 12 rfl rfl)
theorem dX3_wishes_13 : decode cX3_wishes 13 = .ok (.iaload, 1) := dk_46 (dk_at dksX3_wishes_0 13 rfl rfl)
theorem dX3_wishes_14 : decode cX3_wishes 14 = .ok (.ifCond .le 7, 3) := dk_158 0 7 (dk_at dksX3_wishes_0 14 rfl rfl)
theorem dX3_wishes_17 : decode cX3_wishes 17 = .ok (.iconst 1, 1) := dk_4 (dk_at dksX3_wishes_0 17 rfl rfl)
theorem dX3_wishes_18 : decode cX3_wishes 18 = .ok (.goto 4, 3) := dk_167 0 4 (dk_at dksX3_wishes_0 18 rfl rfl)
theorem dX3_wishes_21 : decode cX3_wishes 21 = .ok (.iconst 0, 1) := dk_3 (dk_at dksX3_wishes_0 21 rfl rfl)
theorem dX3_wishes_22 : decode cX3_wishes 22 = .ok (.ireturn, 1) := dk_172 (dk_at dksX3_wishes_0 22 rfl rfl)
abbrev cX3_leastSpoken : ByteArray := prog_34_method_43_code
def yX3_leastSpoken : MethodName := ⟨RX3, "leastSpoken", "()I"⟩
def dkwX3_leastSpoken_3 : List UInt8 := [180, 0, 46, 28, 46, 42, 180, 0, 46, 27, 46, 164, 0, 5, 28, 60, 132, 2, 1, 167, 255, 172, 27, 172]
abbrev dktX3_leastSpoken_3 : List UInt8 := dkwX3_leastSpoken_3 ++ []
def dkwX3_leastSpoken_2 : List UInt8 := [155, 0, 37, 42, 180, 0, 43, 28, 46, 42, 180, 0, 43, 27, 46, 161, 0, 22, 29, 153, 0, 20, 42]
abbrev dktX3_leastSpoken_2 : List UInt8 := dkwX3_leastSpoken_2 ++ dktX3_leastSpoken_3
def dkwX3_leastSpoken_1 : List UInt8 := [180, 0, 43, 27, 46, 160, 0, 7, 4, 167, 0, 4, 3, 62, 42, 28, 182, 1, 46, 153, 0, 43, 27]
abbrev dktX3_leastSpoken_1 : List UInt8 := dkwX3_leastSpoken_1 ++ dktX3_leastSpoken_2
def dkwX3_leastSpoken_0 : List UInt8 := [2, 60, 3, 61, 28, 42, 180, 0, 159, 162, 0, 82, 27, 155, 0, 22, 42, 180, 0, 43, 28, 46, 42]
abbrev dktX3_leastSpoken_0 : List UInt8 := dkwX3_leastSpoken_0 ++ dktX3_leastSpoken_1
theorem dksX3_leastSpoken_0 : cX3_leastSpoken.data.toList.drop 0 = dktX3_leastSpoken_0 := by decide +kernel
theorem dksX3_leastSpoken_1 : cX3_leastSpoken.data.toList.drop 23 = dktX3_leastSpoken_1 := dk_seg dksX3_leastSpoken_0 23 rfl rfl
theorem dksX3_leastSpoken_2 : cX3_leastSpoken.data.toList.drop 46 = dktX3_leastSpoken_2 := dk_seg dksX3_leastSpoken_1 23 rfl rfl
theorem dksX3_leastSpoken_3 : cX3_leastSpoken.data.toList.drop 69 = dktX3_leastSpoken_3 := dk_seg dksX3_leastSpoken_2 23 rfl rfl
theorem dX3_leastSpoken_0 : decode cX3_leastSpoken 0 = .ok (.iconst (-1), 1) := dk_2 (dk_at dksX3_leastSpoken_0 0 rfl rfl)
theorem dX3_leastSpoken_1 : decode cX3_leastSpoken 1 = .ok (.istore_n 1, 1) := dk_60 (dk_at dksX3_leastSpoken_0 1 rfl rfl)
theorem dX3_leastSpoken_2 : decode cX3_leastSpoken 2 = .ok (.iconst 0, 1) := dk_3 (dk_at dksX3_leastSpoken_0 2 rfl rfl)
theorem dX3_leastSpoken_3 : decode cX3_leastSpoken 3 = .ok (.istore_n 2, 1) := dk_61 (dk_at dksX3_leastSpoken_0 3 rfl rfl)
theorem dX3_leastSpoken_4 : decode cX3_leastSpoken 4 = .ok (.iload_n 2, 1) := dk_28 (dk_at dksX3_leastSpoken_0 4 rfl rfl)
theorem dX3_leastSpoken_5 : decode cX3_leastSpoken 5 = .ok (.aload_n 0, 1) := dk_42 (dk_at dksX3_leastSpoken_0 5 rfl rfl)
theorem dX3_leastSpoken_6 : decode cX3_leastSpoken 6 = .ok (.getfield 159, 3) := dk_180 0 159 (dk_at dksX3_leastSpoken_0 6 rfl rfl)
theorem dX3_leastSpoken_9 : decode cX3_leastSpoken 9 = .ok (.if_icmp .ge 82, 3) := dk_162 0 82 (dk_at dksX3_leastSpoken_0 9 rfl rfl)
theorem dX3_leastSpoken_12 : decode cX3_leastSpoken 12 = .ok (.iload_n 1, 1) := dk_27 (dk_at dksX3_leastSpoken_0 12 rfl rfl)
theorem dX3_leastSpoken_13 : decode cX3_leastSpoken 13 = .ok (.ifCond .lt 22, 3) := dk_155 0 22 (dk_at dksX3_leastSpoken_0 13 rfl rfl)
theorem dX3_leastSpoken_16 : decode cX3_leastSpoken 16 = .ok (.aload_n 0, 1) := dk_42 (dk_at dksX3_leastSpoken_0 16 rfl rfl)
theorem dX3_leastSpoken_17 : decode cX3_leastSpoken 17 = .ok (.getfield 43, 3) := dk_180 0 43 (dk_at dksX3_leastSpoken_0 17 rfl rfl)
theorem dX3_leastSpoken_20 : decode cX3_leastSpoken 20 = .ok (.iload_n 2, 1) := dk_28 (dk_at dksX3_leastSpoken_0 20 rfl rfl)
theorem dX3_leastSpoken_21 : decode cX3_leastSpoken 21 = .ok (.iaload, 1) := dk_46 (dk_at dksX3_leastSpoken_0 21 rfl rfl)
theorem dX3_leastSpoken_22 : decode cX3_leastSpoken 22 = .ok (.aload_n 0, 1) := dk_42 (dk_at dksX3_leastSpoken_0 22 rfl rfl)
theorem dX3_leastSpoken_23 : decode cX3_leastSpoken 23 = .ok (.getfield 43, 3) := dk_180 0 43 (dk_at dksX3_leastSpoken_1 0 rfl rfl)
theorem dX3_leastSpoken_26 : decode cX3_leastSpoken 26 = .ok (.iload_n 1, 1) := dk_27 (dk_at dksX3_leastSpoken_1 3 rfl rfl)
theorem dX3_leastSpoken_27 : decode cX3_leastSpoken 27 = .ok (.iaload, 1) := dk_46 (dk_at dksX3_leastSpoken_1 4 rfl rfl)
theorem dX3_leastSpoken_28 : decode cX3_leastSpoken 28 = .ok (.if_icmp .ne 7, 3) := dk_160 0 7 (dk_at dksX3_leastSpoken_1 5 rfl rfl)
theorem dX3_leastSpoken_31 : decode cX3_leastSpoken 31 = .ok (.iconst 1, 1) := dk_4 (dk_at dksX3_leastSpoken_1 8 rfl rfl)
theorem dX3_leastSpoken_32 : decode cX3_leastSpoken 32 = .ok (.goto 4, 3) := dk_167 0 4 (dk_at dksX3_leastSpoken_1 9 rfl rfl)
theorem dX3_leastSpoken_35 : decode cX3_leastSpoken 35 = .ok (.iconst 0, 1) := dk_3 (dk_at dksX3_leastSpoken_1 12 rfl rfl)
theorem dX3_leastSpoken_36 : decode cX3_leastSpoken 36 = .ok (.istore_n 3, 1) := dk_62 (dk_at dksX3_leastSpoken_1 13 rfl rfl)
theorem dX3_leastSpoken_37 : decode cX3_leastSpoken 37 = .ok (.aload_n 0, 1) := dk_42 (dk_at dksX3_leastSpoken_1 14 rfl rfl)
theorem dX3_leastSpoken_38 : decode cX3_leastSpoken 38 = .ok (.iload_n 2, 1) := dk_28 (dk_at dksX3_leastSpoken_1 15 rfl rfl)
theorem dX3_leastSpoken_39 : decode cX3_leastSpoken 39 = .ok (.invokevirtual 302, 3) := dk_182 1 46 (dk_at dksX3_leastSpoken_1 16 rfl rfl)
theorem dX3_leastSpoken_42 : decode cX3_leastSpoken 42 = .ok (.ifCond .eq 43, 3) := dk_153 0 43 (dk_at dksX3_leastSpoken_1 19 rfl rfl)
theorem dX3_leastSpoken_45 : decode cX3_leastSpoken 45 = .ok (.iload_n 1, 1) := dk_27 (dk_at dksX3_leastSpoken_1 22 rfl rfl)
theorem dX3_leastSpoken_46 : decode cX3_leastSpoken 46 = .ok (.ifCond .lt 37, 3) := dk_155 0 37 (dk_at dksX3_leastSpoken_2 0 rfl rfl)
theorem dX3_leastSpoken_49 : decode cX3_leastSpoken 49 = .ok (.aload_n 0, 1) := dk_42 (dk_at dksX3_leastSpoken_2 3 rfl rfl)
theorem dX3_leastSpoken_50 : decode cX3_leastSpoken 50 = .ok (.getfield 43, 3) := dk_180 0 43 (dk_at dksX3_leastSpoken_2 4 rfl rfl)
theorem dX3_leastSpoken_53 : decode cX3_leastSpoken 53 = .ok (.iload_n 2, 1) := dk_28 (dk_at dksX3_leastSpoken_2 7 rfl rfl)
theorem dX3_leastSpoken_54 : decode cX3_leastSpoken 54 = .ok (.iaload, 1) := dk_46 (dk_at dksX3_leastSpoken_2 8 rfl rfl)
theorem dX3_leastSpoken_55 : decode cX3_leastSpoken 55 = .ok (.aload_n 0, 1) := dk_42 (dk_at dksX3_leastSpoken_2 9 rfl rfl)
theorem dX3_leastSpoken_56 : decode cX3_leastSpoken 56 = .ok (.getfield 43, 3) := dk_180 0 43 (dk_at dksX3_leastSpoken_2 10 rfl rfl)
theorem dX3_leastSpoken_59 : decode cX3_leastSpoken 59 = .ok (.iload_n 1, 1) := dk_27 (dk_at dksX3_leastSpoken_2 13 rfl rfl)
theorem dX3_leastSpoken_60 : decode cX3_leastSpoken 60 = .ok (.iaload, 1) := dk_46 (dk_at dksX3_leastSpoken_2 14 rfl rfl)
theorem dX3_leastSpoken_61 : decode cX3_leastSpoken 61 = .ok (.if_icmp .lt 22, 3) := dk_161 0 22 (dk_at dksX3_leastSpoken_2 15 rfl rfl)
theorem dX3_leastSpoken_64 : decode cX3_leastSpoken 64 = .ok (.iload_n 3, 1) := dk_29 (dk_at dksX3_leastSpoken_2 18 rfl rfl)
theorem dX3_leastSpoken_65 : decode cX3_leastSpoken 65 = .ok (.ifCond .eq 20, 3) := dk_153 0 20 (dk_at dksX3_leastSpoken_2 19 rfl rfl)
theorem dX3_leastSpoken_68 : decode cX3_leastSpoken 68 = .ok (.aload_n 0, 1) := dk_42 (dk_at dksX3_leastSpoken_2 22 rfl rfl)
theorem dX3_leastSpoken_69 : decode cX3_leastSpoken 69 = .ok (.getfield 46, 3) := dk_180 0 46 (dk_at dksX3_leastSpoken_3 0 rfl rfl)
theorem dX3_leastSpoken_72 : decode cX3_leastSpoken 72 = .ok (.iload_n 2, 1) := dk_28 (dk_at dksX3_leastSpoken_3 3 rfl rfl)
theorem dX3_leastSpoken_73 : decode cX3_leastSpoken 73 = .ok (.iaload, 1) := dk_46 (dk_at dksX3_leastSpoken_3 4 rfl rfl)
theorem dX3_leastSpoken_74 : decode cX3_leastSpoken 74 = .ok (.aload_n 0, 1) := dk_42 (dk_at dksX3_leastSpoken_3 5 rfl rfl)
theorem dX3_leastSpoken_75 : decode cX3_leastSpoken 75 = .ok (.getfield 46, 3) := dk_180 0 46 (dk_at dksX3_leastSpoken_3 6 rfl rfl)
theorem dX3_leastSpoken_78 : decode cX3_leastSpoken 78 = .ok (.iload_n 1, 1) := dk_27 (dk_at dksX3_leastSpoken_3 9 rfl rfl)
theorem dX3_leastSpoken_79 : decode cX3_leastSpoken 79 = .ok (.iaload, 1) := dk_46 (dk_at dksX3_leastSpoken_3 10 rfl rfl)
theorem dX3_leastSpoken_80 : decode cX3_leastSpoken 80 = .ok (.if_icmp .le 5, 3) := dk_164 0 5 (dk_at dksX3_leastSpoken_3 11 rfl rfl)
theorem dX3_leastSpoken_83 : decode cX3_leastSpoken 83 = .ok (.iload_n 2, 1) := dk_28 (dk_at dksX3_leastSpoken_3 14 rfl rfl)
theorem dX3_leastSpoken_84 : decode cX3_leastSpoken 84 = .ok (.istore_n 1, 1) := dk_60 (dk_at dksX3_leastSpoken_3 15 rfl rfl)
theorem dX3_leastSpoken_85 : decode cX3_leastSpoken 85 = .ok (.iinc 2 1, 3) := dk_132 2 1 (dk_at dksX3_leastSpoken_3 16 rfl rfl)
theorem dX3_leastSpoken_88 : decode cX3_leastSpoken 88 = .ok (.goto (-84), 3) := dk_167 255 172 (dk_at dksX3_leastSpoken_3 19 rfl rfl)
theorem dX3_leastSpoken_91 : decode cX3_leastSpoken 91 = .ok (.iload_n 1, 1) := dk_27 (dk_at dksX3_leastSpoken_3 22 rfl rfl)
theorem dX3_leastSpoken_92 : decode cX3_leastSpoken 92 = .ok (.ireturn, 1) := dk_172 (dk_at dksX3_leastSpoken_3 23 rfl rfl)
abbrev cX3_chiefLast : ByteArray := prog_34_method_44_code
def yX3_chiefLast : MethodName := ⟨RX3, "chiefLast", "()I"⟩
def dkwX3_chiefLast_2 : List UInt8 := [3, 27, 182, 1, 52, 61, 28, 156, 0, 12, 42, 4, 27, 182, 1, 52, 167, 0, 4, 28, 172]
abbrev dktX3_chiefLast_2 : List UInt8 := dkwX3_chiefLast_2 ++ []
def dkwX3_chiefLast_1 : List UInt8 := [28, 46, 27, 164, 0, 12, 42, 180, 0, 9, 28, 46, 167, 0, 4, 27, 60, 132, 2, 1, 167, 255, 216, 42]
abbrev dktX3_chiefLast_1 : List UInt8 := dkwX3_chiefLast_1 ++ dktX3_chiefLast_2
def dkwX3_chiefLast_0 : List UInt8 := [2, 60, 3, 61, 28, 42, 180, 0, 159, 162, 0, 38, 42, 28, 182, 1, 43, 153, 0, 22, 42, 180, 0, 9]
abbrev dktX3_chiefLast_0 : List UInt8 := dkwX3_chiefLast_0 ++ dktX3_chiefLast_1
theorem dksX3_chiefLast_0 : cX3_chiefLast.data.toList.drop 0 = dktX3_chiefLast_0 := by decide +kernel
theorem dksX3_chiefLast_1 : cX3_chiefLast.data.toList.drop 24 = dktX3_chiefLast_1 := dk_seg dksX3_chiefLast_0 24 rfl rfl
theorem dksX3_chiefLast_2 : cX3_chiefLast.data.toList.drop 48 = dktX3_chiefLast_2 := dk_seg dksX3_chiefLast_1 24 rfl rfl
theorem dX3_chiefLast_0 : decode cX3_chiefLast 0 = .ok (.iconst (-1), 1) := dk_2 (dk_at dksX3_chiefLast_0 0 rfl rfl)
theorem dX3_chiefLast_1 : decode cX3_chiefLast 1 = .ok (.istore_n 1, 1) := dk_60 (dk_at dksX3_chiefLast_0 1 rfl rfl)
theorem dX3_chiefLast_2 : decode cX3_chiefLast 2 = .ok (.iconst 0, 1) := dk_3 (dk_at dksX3_chiefLast_0 2 rfl rfl)
theorem dX3_chiefLast_3 : decode cX3_chiefLast 3 = .ok (.istore_n 2, 1) := dk_61 (dk_at dksX3_chiefLast_0 3 rfl rfl)
theorem dX3_chiefLast_4 : decode cX3_chiefLast 4 = .ok (.iload_n 2, 1) := dk_28 (dk_at dksX3_chiefLast_0 4 rfl rfl)
theorem dX3_chiefLast_5 : decode cX3_chiefLast 5 = .ok (.aload_n 0, 1) := dk_42 (dk_at dksX3_chiefLast_0 5 rfl rfl)
theorem dX3_chiefLast_6 : decode cX3_chiefLast 6 = .ok (.getfield 159, 3) := dk_180 0 159 (dk_at dksX3_chiefLast_0 6 rfl rfl)
theorem dX3_chiefLast_9 : decode cX3_chiefLast 9 = .ok (.if_icmp .ge 38, 3) := dk_162 0 38 (dk_at dksX3_chiefLast_0 9 rfl rfl)
theorem dX3_chiefLast_12 : decode cX3_chiefLast 12 = .ok (.aload_n 0, 1) := dk_42 (dk_at dksX3_chiefLast_0 12 rfl rfl)
theorem dX3_chiefLast_13 : decode cX3_chiefLast 13 = .ok (.iload_n 2, 1) := dk_28 (dk_at dksX3_chiefLast_0 13 rfl rfl)
theorem dX3_chiefLast_14 : decode cX3_chiefLast 14 = .ok (.invokevirtual 299, 3) := dk_182 1 43 (dk_at dksX3_chiefLast_0 14 rfl rfl)
theorem dX3_chiefLast_17 : decode cX3_chiefLast 17 = .ok (.ifCond .eq 22, 3) := dk_153 0 22 (dk_at dksX3_chiefLast_0 17 rfl rfl)
theorem dX3_chiefLast_20 : decode cX3_chiefLast 20 = .ok (.aload_n 0, 1) := dk_42 (dk_at dksX3_chiefLast_0 20 rfl rfl)
theorem dX3_chiefLast_21 : decode cX3_chiefLast 21 = .ok (.getfield 9, 3) := dk_180 0 9 (dk_at dksX3_chiefLast_0 21 rfl rfl)
theorem dX3_chiefLast_24 : decode cX3_chiefLast 24 = .ok (.iload_n 2, 1) := dk_28 (dk_at dksX3_chiefLast_1 0 rfl rfl)
theorem dX3_chiefLast_25 : decode cX3_chiefLast 25 = .ok (.iaload, 1) := dk_46 (dk_at dksX3_chiefLast_1 1 rfl rfl)
theorem dX3_chiefLast_26 : decode cX3_chiefLast 26 = .ok (.iload_n 1, 1) := dk_27 (dk_at dksX3_chiefLast_1 2 rfl rfl)
theorem dX3_chiefLast_27 : decode cX3_chiefLast 27 = .ok (.if_icmp .le 12, 3) := dk_164 0 12 (dk_at dksX3_chiefLast_1 3 rfl rfl)
theorem dX3_chiefLast_30 : decode cX3_chiefLast 30 = .ok (.aload_n 0, 1) := dk_42 (dk_at dksX3_chiefLast_1 6 rfl rfl)
theorem dX3_chiefLast_31 : decode cX3_chiefLast 31 = .ok (.getfield 9, 3) := dk_180 0 9 (dk_at dksX3_chiefLast_1 7 rfl rfl)
theorem dX3_chiefLast_34 : decode cX3_chiefLast 34 = .ok (.iload_n 2, 1) := dk_28 (dk_at dksX3_chiefLast_1 10 rfl rfl)
theorem dX3_chiefLast_35 : decode cX3_chiefLast 35 = .ok (.iaload, 1) := dk_46 (dk_at dksX3_chiefLast_1 11 rfl rfl)
theorem dX3_chiefLast_36 : decode cX3_chiefLast 36 = .ok (.goto 4, 3) := dk_167 0 4 (dk_at dksX3_chiefLast_1 12 rfl rfl)
theorem dX3_chiefLast_39 : decode cX3_chiefLast 39 = .ok (.iload_n 1, 1) := dk_27 (dk_at dksX3_chiefLast_1 15 rfl rfl)
theorem dX3_chiefLast_40 : decode cX3_chiefLast 40 = .ok (.istore_n 1, 1) := dk_60 (dk_at dksX3_chiefLast_1 16 rfl rfl)
theorem dX3_chiefLast_41 : decode cX3_chiefLast 41 = .ok (.iinc 2 1, 3) := dk_132 2 1 (dk_at dksX3_chiefLast_1 17 rfl rfl)
theorem dX3_chiefLast_44 : decode cX3_chiefLast 44 = .ok (.goto (-40), 3) := dk_167 255 216 (dk_at dksX3_chiefLast_1 20 rfl rfl)
theorem dX3_chiefLast_47 : decode cX3_chiefLast 47 = .ok (.aload_n 0, 1) := dk_42 (dk_at dksX3_chiefLast_1 23 rfl rfl)
theorem dX3_chiefLast_48 : decode cX3_chiefLast 48 = .ok (.iconst 0, 1) := dk_3 (dk_at dksX3_chiefLast_2 0 rfl rfl)
theorem dX3_chiefLast_49 : decode cX3_chiefLast 49 = .ok (.iload_n 1, 1) := dk_27 (dk_at dksX3_chiefLast_2 1 rfl rfl)
theorem dX3_chiefLast_50 : decode cX3_chiefLast 50 = .ok (.invokevirtual 308, 3) := dk_182 1 52 (dk_at dksX3_chiefLast_2 2 rfl rfl)
theorem dX3_chiefLast_53 : decode cX3_chiefLast 53 = .ok (.istore_n 2, 1) := dk_61 (dk_at dksX3_chiefLast_2 5 rfl rfl)
theorem dX3_chiefLast_54 : decode cX3_chiefLast 54 = .ok (.iload_n 2, 1) := dk_28 (dk_at dksX3_chiefLast_2 6 rfl rfl)
theorem dX3_chiefLast_55 : decode cX3_chiefLast 55 = .ok (.ifCond .ge 12, 3) := dk_156 0 12 (dk_at dksX3_chiefLast_2 7 rfl rfl)
theorem dX3_chiefLast_58 : decode cX3_chiefLast 58 = .ok (.aload_n 0, 1) := dk_42 (dk_at dksX3_chiefLast_2 10 rfl rfl)
theorem dX3_chiefLast_59 : decode cX3_chiefLast 59 = .ok (.iconst 1, 1) := dk_4 (dk_at dksX3_chiefLast_2 11 rfl rfl)
theorem dX3_chiefLast_60 : decode cX3_chiefLast 60 = .ok (.iload_n 1, 1) := dk_27 (dk_at dksX3_chiefLast_2 12 rfl rfl)
theorem dX3_chiefLast_61 : decode cX3_chiefLast 61 = .ok (.invokevirtual 308, 3) := dk_182 1 52 (dk_at dksX3_chiefLast_2 13 rfl rfl)
theorem dX3_chiefLast_64 : decode cX3_chiefLast 64 = .ok (.goto 4, 3) := dk_167 0 4 (dk_at dksX3_chiefLast_2 16 rfl rfl)
theorem dX3_chiefLast_67 : decode cX3_chiefLast 67 = .ok (.iload_n 2, 1) := dk_28 (dk_at dksX3_chiefLast_2 19 rfl rfl)
theorem dX3_chiefLast_68 : decode cX3_chiefLast 68 = .ok (.ireturn, 1) := dk_172 (dk_at dksX3_chiefLast_2 20 rfl rfl)
abbrev cX3_mostWishing : ByteArray := prog_34_method_41_code
def yX3_mostWishing : MethodName := ⟨RX3, "mostWishing", "(ZI)I"⟩
def dkwX3_mostWishing_2 : List UInt8 := [46, 42, 180, 0, 46, 29, 46, 164, 0, 6, 21, 4, 62, 132, 4, 1, 167, 255, 197, 29, 172]
abbrev dktX3_mostWishing_2 : List UInt8 := dkwX3_mostWishing_2 ++ []
def dkwX3_mostWishing_1 : List UInt8 := [154, 0, 14, 42, 180, 0, 9, 21, 4, 46, 28, 162, 0, 26, 29, 155, 0, 19, 42, 180, 0, 46, 21, 4]
abbrev dktX3_mostWishing_1 : List UInt8 := dkwX3_mostWishing_1 ++ dktX3_mostWishing_2
def dkwX3_mostWishing_0 : List UInt8 := [2, 62, 3, 54, 4, 21, 4, 42, 180, 0, 159, 162, 0, 56, 42, 21, 4, 182, 1, 46, 153, 0, 41, 27]
abbrev dktX3_mostWishing_0 : List UInt8 := dkwX3_mostWishing_0 ++ dktX3_mostWishing_1
theorem dksX3_mostWishing_0 : cX3_mostWishing.data.toList.drop 0 = dktX3_mostWishing_0 := by decide +kernel
theorem dksX3_mostWishing_1 : cX3_mostWishing.data.toList.drop 24 = dktX3_mostWishing_1 := dk_seg dksX3_mostWishing_0 24 rfl rfl
theorem dksX3_mostWishing_2 : cX3_mostWishing.data.toList.drop 48 = dktX3_mostWishing_2 := dk_seg dksX3_mostWishing_1 24 rfl rfl
theorem dX3_mostWishing_0 : decode cX3_mostWishing 0 = .ok (.iconst (-1), 1) := dk_2 (dk_at dksX3_mostWishing_0 0 rfl rfl)
theorem dX3_mostWishing_1 : decode cX3_mostWishing 1 = .ok (.istore_n 3, 1) := dk_62 (dk_at dksX3_mostWishing_0 1 rfl rfl)
theorem dX3_mostWishing_2 : decode cX3_mostWishing 2 = .ok (.iconst 0, 1) := dk_3 (dk_at dksX3_mostWishing_0 2 rfl rfl)
theorem dX3_mostWishing_3 : decode cX3_mostWishing 3 = .ok (.istore 4, 2) := dk_54 4 (dk_at dksX3_mostWishing_0 3 rfl rfl)
theorem dX3_mostWishing_5 : decode cX3_mostWishing 5 = .ok (.iload 4, 2) := dk_21 4 (dk_at dksX3_mostWishing_0 5 rfl rfl)
theorem dX3_mostWishing_7 : decode cX3_mostWishing 7 = .ok (.aload_n 0, 1) := dk_42 (dk_at dksX3_mostWishing_0 7 rfl rfl)
theorem dX3_mostWishing_8 : decode cX3_mostWishing 8 = .ok (.getfield 159, 3) := dk_180 0 159 (dk_at dksX3_mostWishing_0 8 rfl rfl)
theorem dX3_mostWishing_11 : decode cX3_mostWishing 11 = .ok (.if_icmp .ge 56, 3) := dk_162 0 56 (dk_at dksX3_mostWishing_0 11 rfl rfl)
theorem dX3_mostWishing_14 : decode cX3_mostWishing 14 = .ok (.aload_n 0, 1) := dk_42 (dk_at dksX3_mostWishing_0 14 rfl rfl)
theorem dX3_mostWishing_15 : decode cX3_mostWishing 15 = .ok (.iload 4, 2) := dk_21 4 (dk_at dksX3_mostWishing_0 15 rfl rfl)
theorem dX3_mostWishing_17 : decode cX3_mostWishing 17 = .ok (.invokevirtual 302, 3) := dk_182 1 46 (dk_at dksX3_mostWishing_0 17 rfl rfl)
theorem dX3_mostWishing_20 : decode cX3_mostWishing 20 = .ok (.ifCond .eq 41, 3) := dk_153 0 41 (dk_at dksX3_mostWishing_0 20 rfl rfl)
theorem dX3_mostWishing_23 : decode cX3_mostWishing 23 = .ok (.iload_n 1, 1) := dk_27 (dk_at dksX3_mostWishing_0 23 rfl rfl)
theorem dX3_mostWishing_24 : decode cX3_mostWishing 24 = .ok (.ifCond .ne 14, 3) := dk_154 0 14 (dk_at dksX3_mostWishing_1 0 rfl rfl)
theorem dX3_mostWishing_27 : decode cX3_mostWishing 27 = .ok (.aload_n 0, 1) := dk_42 (dk_at dksX3_mostWishing_1 3 rfl rfl)
theorem dX3_mostWishing_28 : decode cX3_mostWishing 28 = .ok (.getfield 9, 3) := dk_180 0 9 (dk_at dksX3_mostWishing_1 4 rfl rfl)
theorem dX3_mostWishing_31 : decode cX3_mostWishing 31 = .ok (.iload 4, 2) := dk_21 4 (dk_at dksX3_mostWishing_1 7 rfl rfl)
theorem dX3_mostWishing_33 : decode cX3_mostWishing 33 = .ok (.iaload, 1) := dk_46 (dk_at dksX3_mostWishing_1 9 rfl rfl)
theorem dX3_mostWishing_34 : decode cX3_mostWishing 34 = .ok (.iload_n 2, 1) := dk_28 (dk_at dksX3_mostWishing_1 10 rfl rfl)
theorem dX3_mostWishing_35 : decode cX3_mostWishing 35 = .ok (.if_icmp .ge 26, 3) := dk_162 0 26 (dk_at dksX3_mostWishing_1 11 rfl rfl)
theorem dX3_mostWishing_38 : decode cX3_mostWishing 38 = .ok (.iload_n 3, 1) := dk_29 (dk_at dksX3_mostWishing_1 14 rfl rfl)
theorem dX3_mostWishing_39 : decode cX3_mostWishing 39 = .ok (.ifCond .lt 19, 3) := dk_155 0 19 (dk_at dksX3_mostWishing_1 15 rfl rfl)
theorem dX3_mostWishing_42 : decode cX3_mostWishing 42 = .ok (.aload_n 0, 1) := dk_42 (dk_at dksX3_mostWishing_1 18 rfl rfl)
theorem dX3_mostWishing_43 : decode cX3_mostWishing 43 = .ok (.getfield 46, 3) := dk_180 0 46 (dk_at dksX3_mostWishing_1 19 rfl rfl)
theorem dX3_mostWishing_46 : decode cX3_mostWishing 46 = .ok (.iload 4, 2) := dk_21 4 (dk_at dksX3_mostWishing_1 22 rfl rfl)
theorem dX3_mostWishing_48 : decode cX3_mostWishing 48 = .ok (.iaload, 1) := dk_46 (dk_at dksX3_mostWishing_2 0 rfl rfl)
theorem dX3_mostWishing_49 : decode cX3_mostWishing 49 = .ok (.aload_n 0, 1) := dk_42 (dk_at dksX3_mostWishing_2 1 rfl rfl)
theorem dX3_mostWishing_50 : decode cX3_mostWishing 50 = .ok (.getfield 46, 3) := dk_180 0 46 (dk_at dksX3_mostWishing_2 2 rfl rfl)
theorem dX3_mostWishing_53 : decode cX3_mostWishing 53 = .ok (.iload_n 3, 1) := dk_29 (dk_at dksX3_mostWishing_2 5 rfl rfl)
theorem dX3_mostWishing_54 : decode cX3_mostWishing 54 = .ok (.iaload, 1) := dk_46 (dk_at dksX3_mostWishing_2 6 rfl rfl)
theorem dX3_mostWishing_55 : decode cX3_mostWishing 55 = .ok (.if_icmp .le 6, 3) := dk_164 0 6 (dk_at dksX3_mostWishing_2 7 rfl rfl)
theorem dX3_mostWishing_58 : decode cX3_mostWishing 58 = .ok (.iload 4, 2) := dk_21 4 (dk_at dksX3_mostWishing_2 10 rfl rfl)
theorem dX3_mostWishing_60 : decode cX3_mostWishing 60 = .ok (.istore_n 3, 1) := dk_62 (dk_at dksX3_mostWishing_2 12 rfl rfl)
theorem dX3_mostWishing_61 : decode cX3_mostWishing 61 = .ok (.iinc 4 1, 3) := dk_132 4 1 (dk_at dksX3_mostWishing_2 13 rfl rfl)
theorem dX3_mostWishing_64 : decode cX3_mostWishing 64 = .ok (.goto (-59), 3) := dk_167 255 197 (dk_at dksX3_mostWishing_2 16 rfl rfl)
theorem dX3_mostWishing_67 : decode cX3_mostWishing 67 = .ok (.iload_n 3, 1) := dk_29 (dk_at dksX3_mostWishing_2 19 rfl rfl)
theorem dX3_mostWishing_68 : decode cX3_mostWishing 68 = .ok (.ireturn, 1) := dk_172 (dk_at dksX3_mostWishing_2 20 rfl rfl)
abbrev cX3_speaks : ByteArray := prog_34_method_49_code
def yX3_speaks : MethodName := ⟨RX3, "speaks", "(II)V"⟩
def dkwX3_speaks_10 : List UInt8 := [42, 89, 180, 1, 33, 21, 4, 96, 181, 1, 33, 42, 180, 0, 58, 28, 92, 46, 21, 4, 96, 79, 177]
abbrev dktX3_speaks_10 : List UInt8 := dkwX3_speaks_10 ++ []
def dkwX3_speaks_9 : List UInt8 := [89, 180, 1, 65, 4, 96, 181, 1, 65, 42, 180, 0, 43, 27, 92, 46, 4, 96, 79, 42, 27, 181, 1, 49]
abbrev dktX3_speaks_9 : List UInt8 := dkwX3_speaks_9 ++ dktX3_speaks_10
def dkwX3_speaks_8 : List UInt8 := [42, 27, 28, 182, 1, 78, 167, 0, 5, 16, 254, 79, 42, 180, 0, 82, 42, 180, 1, 65, 21, 6, 79, 42]
abbrev dktX3_speaks_8 : List UInt8 := dkwX3_speaks_8 ++ dktX3_speaks_9
def dkwX3_speaks_7 : List UInt8 := [182, 1, 74, 79, 42, 180, 0, 79, 42, 180, 1, 65, 42, 180, 0, 76, 42, 180, 1, 65, 46, 154, 0, 12]
abbrev dktX3_speaks_7 : List UInt8 := dkwX3_speaks_7 ++ dktX3_speaks_8
def dkwX3_speaks_6 : List UInt8 := [42, 180, 0, 73, 42, 180, 1, 65, 21, 4, 79, 42, 180, 0, 76, 42, 180, 1, 65, 42, 27, 28, 21, 5]
abbrev dktX3_speaks_6 : List UInt8 := dkwX3_speaks_6 ++ dktX3_speaks_7
def dkwX3_speaks_5 : List UInt8 := [79, 42, 180, 0, 67, 42, 180, 1, 65, 28, 79, 42, 180, 0, 70, 42, 180, 1, 65, 42, 180, 1, 33, 79]
abbrev dktX3_speaks_5 : List UInt8 := dkwX3_speaks_5 ++ dktX3_speaks_6
def dkwX3_speaks_4 : List UInt8 := [167, 0, 5, 21, 5, 54, 5, 42, 180, 0, 49, 27, 21, 6, 79, 42, 180, 0, 64, 42, 180, 1, 65, 27]
abbrev dktX3_speaks_4 : List UInt8 := dkwX3_speaks_4 ++ dktX3_speaks_5
def dkwX3_speaks_3 : List UInt8 := [54, 5, 42, 27, 182, 1, 71, 54, 6, 21, 6, 155, 0, 20, 4, 54, 4, 21, 5, 4, 164, 0, 7, 4]
abbrev dktX3_speaks_3 : List UInt8 := dkwX3_speaks_3 ++ dktX3_speaks_4
def dkwX3_speaks_2 : List UInt8 := [21, 4, 54, 4, 29, 42, 180, 1, 27, 4, 100, 162, 0, 7, 29, 167, 0, 9, 42, 180, 1, 27, 4, 100]
abbrev dktX3_speaks_2 : List UInt8 := dkwX3_speaks_2 ++ dktX3_speaks_3
def dkwX3_speaks_1 : List UInt8 := [4, 29, 96, 54, 4, 42, 180, 0, 208, 4, 160, 0, 14, 5, 21, 4, 104, 5, 96, 6, 108, 167, 0, 5]
abbrev dktX3_speaks_1 : List UInt8 := dkwX3_speaks_1 ++ dktX3_speaks_2
def dkwX3_speaks_0 : List UInt8 := [42, 27, 28, 182, 1, 68, 62, 4, 29, 96, 42, 180, 1, 27, 164, 0, 10, 42, 180, 1, 27, 167, 0, 6]
abbrev dktX3_speaks_0 : List UInt8 := dkwX3_speaks_0 ++ dktX3_speaks_1
theorem dksX3_speaks_0 : cX3_speaks.data.toList.drop 0 = dktX3_speaks_0 := by decide +kernel
theorem dksX3_speaks_1 : cX3_speaks.data.toList.drop 24 = dktX3_speaks_1 := dk_seg dksX3_speaks_0 24 rfl rfl
theorem dksX3_speaks_2 : cX3_speaks.data.toList.drop 48 = dktX3_speaks_2 := dk_seg dksX3_speaks_1 24 rfl rfl
theorem dksX3_speaks_3 : cX3_speaks.data.toList.drop 72 = dktX3_speaks_3 := dk_seg dksX3_speaks_2 24 rfl rfl
theorem dksX3_speaks_4 : cX3_speaks.data.toList.drop 96 = dktX3_speaks_4 := dk_seg dksX3_speaks_3 24 rfl rfl
theorem dksX3_speaks_5 : cX3_speaks.data.toList.drop 120 = dktX3_speaks_5 := dk_seg dksX3_speaks_4 24 rfl rfl
theorem dksX3_speaks_6 : cX3_speaks.data.toList.drop 144 = dktX3_speaks_6 := dk_seg dksX3_speaks_5 24 rfl rfl
theorem dksX3_speaks_7 : cX3_speaks.data.toList.drop 168 = dktX3_speaks_7 := dk_seg dksX3_speaks_6 24 rfl rfl
theorem dksX3_speaks_8 : cX3_speaks.data.toList.drop 192 = dktX3_speaks_8 := dk_seg dksX3_speaks_7 24 rfl rfl
theorem dksX3_speaks_9 : cX3_speaks.data.toList.drop 216 = dktX3_speaks_9 := dk_seg dksX3_speaks_8 24 rfl rfl
theorem dksX3_speaks_10 : cX3_speaks.data.toList.drop 240 = dktX3_speaks_10 := dk_seg dksX3_speaks_9 24 rfl rfl
theorem dX3_speaks_0 : decode cX3_speaks 0 = .ok (.aload_n 0, 1) := dk_42 (dk_at dksX3_speaks_0 0 rfl rfl)
theorem dX3_speaks_1 : decode cX3_speaks 1 = .ok (.iload_n 1, 1) := dk_27 (dk_at dksX3_speaks_0 1 rfl rfl)
theorem dX3_speaks_2 : decode cX3_speaks 2 = .ok (.iload_n 2, 1) := dk_28 (dk_at dksX3_speaks_0 2 rfl rfl)
theorem dX3_speaks_3 : decode cX3_speaks 3 = .ok (.invokevirtual 324, 3) := dk_182 1 68 (dk_at dksX3_speaks_0 3 rfl rfl)
theorem dX3_speaks_6 : decode cX3_speaks 6 = .ok (.istore_n 3, 1) := dk_62 (dk_at dksX3_speaks_0 6 rfl rfl)
theorem dX3_speaks_7 : decode cX3_speaks 7 = .ok (.iconst 1, 1) := dk_4 (dk_at dksX3_speaks_0 7 rfl rfl)
theorem dX3_speaks_8 : decode cX3_speaks 8 = .ok (.iload_n 3, 1) := dk_29 (dk_at dksX3_speaks_0 8 rfl rfl)
theorem dX3_speaks_9 : decode cX3_speaks 9 = .ok (.iadd, 1) := dk_96 (dk_at dksX3_speaks_0 9 rfl rfl)
theorem dX3_speaks_10 : decode cX3_speaks 10 = .ok (.aload_n 0, 1) := dk_42 (dk_at dksX3_speaks_0 10 rfl rfl)
theorem dX3_speaks_11 : decode cX3_speaks 11 = .ok (.getfield 283, 3) := dk_180 1 27 (dk_at dksX3_speaks_0 11 rfl rfl)
theorem dX3_speaks_14 : decode cX3_speaks 14 = .ok (.if_icmp .le 10, 3) := dk_164 0 10 (dk_at dksX3_speaks_0 14 rfl rfl)
theorem dX3_speaks_17 : decode cX3_speaks 17 = .ok (.aload_n 0, 1) := dk_42 (dk_at dksX3_speaks_0 17 rfl rfl)
theorem dX3_speaks_18 : decode cX3_speaks 18 = .ok (.getfield 283, 3) := dk_180 1 27 (dk_at dksX3_speaks_0 18 rfl rfl)
theorem dX3_speaks_21 : decode cX3_speaks 21 = .ok (.goto 6, 3) := dk_167 0 6 (dk_at dksX3_speaks_0 21 rfl rfl)
theorem dX3_speaks_24 : decode cX3_speaks 24 = .ok (.iconst 1, 1) := dk_4 (dk_at dksX3_speaks_1 0 rfl rfl)
theorem dX3_speaks_25 : decode cX3_speaks 25 = .ok (.iload_n 3, 1) := dk_29 (dk_at dksX3_speaks_1 1 rfl rfl)
theorem dX3_speaks_26 : decode cX3_speaks 26 = .ok (.iadd, 1) := dk_96 (dk_at dksX3_speaks_1 2 rfl rfl)
theorem dX3_speaks_27 : decode cX3_speaks 27 = .ok (.istore 4, 2) := dk_54 4 (dk_at dksX3_speaks_1 3 rfl rfl)
theorem dX3_speaks_29 : decode cX3_speaks 29 = .ok (.aload_n 0, 1) := dk_42 (dk_at dksX3_speaks_1 5 rfl rfl)
theorem dX3_speaks_30 : decode cX3_speaks 30 = .ok (.getfield 208, 3) := dk_180 0 208 (dk_at dksX3_speaks_1 6 rfl rfl)
theorem dX3_speaks_33 : decode cX3_speaks 33 = .ok (.iconst 1, 1) := dk_4 (dk_at dksX3_speaks_1 9 rfl rfl)
theorem dX3_speaks_34 : decode cX3_speaks 34 = .ok (.if_icmp .ne 14, 3) := dk_160 0 14 (dk_at dksX3_speaks_1 10 rfl rfl)
theorem dX3_speaks_37 : decode cX3_speaks 37 = .ok (.iconst 2, 1) := dk_5 (dk_at dksX3_speaks_1 13 rfl rfl)
theorem dX3_speaks_38 : decode cX3_speaks 38 = .ok (.iload 4, 2) := dk_21 4 (dk_at dksX3_speaks_1 14 rfl rfl)
theorem dX3_speaks_40 : decode cX3_speaks 40 = .ok (.imul, 1) := dk_104 (dk_at dksX3_speaks_1 16 rfl rfl)
theorem dX3_speaks_41 : decode cX3_speaks 41 = .ok (.iconst 2, 1) := dk_5 (dk_at dksX3_speaks_1 17 rfl rfl)
theorem dX3_speaks_42 : decode cX3_speaks 42 = .ok (.iadd, 1) := dk_96 (dk_at dksX3_speaks_1 18 rfl rfl)
theorem dX3_speaks_43 : decode cX3_speaks 43 = .ok (.iconst 3, 1) := dk_6 (dk_at dksX3_speaks_1 19 rfl rfl)
theorem dX3_speaks_44 : decode cX3_speaks 44 = .ok (.idiv, 1) := dk_108 (dk_at dksX3_speaks_1 20 rfl rfl)
theorem dX3_speaks_45 : decode cX3_speaks 45 = .ok (.goto 5, 3) := dk_167 0 5 (dk_at dksX3_speaks_1 21 rfl rfl)
theorem dX3_speaks_48 : decode cX3_speaks 48 = .ok (.iload 4, 2) := dk_21 4 (dk_at dksX3_speaks_2 0 rfl rfl)
theorem dX3_speaks_50 : decode cX3_speaks 50 = .ok (.istore 4, 2) := dk_54 4 (dk_at dksX3_speaks_2 2 rfl rfl)
theorem dX3_speaks_52 : decode cX3_speaks 52 = .ok (.iload_n 3, 1) := dk_29 (dk_at dksX3_speaks_2 4 rfl rfl)
theorem dX3_speaks_53 : decode cX3_speaks 53 = .ok (.aload_n 0, 1) := dk_42 (dk_at dksX3_speaks_2 5 rfl rfl)
theorem dX3_speaks_54 : decode cX3_speaks 54 = .ok (.getfield 283, 3) := dk_180 1 27 (dk_at dksX3_speaks_2 6 rfl rfl)
theorem dX3_speaks_57 : decode cX3_speaks 57 = .ok (.iconst 1, 1) := dk_4 (dk_at dksX3_speaks_2 9 rfl rfl)
theorem dX3_speaks_58 : decode cX3_speaks 58 = .ok (.isub, 1) := dk_100 (dk_at dksX3_speaks_2 10 rfl rfl)
theorem dX3_speaks_59 : decode cX3_speaks 59 = .ok (.if_icmp .ge 7, 3) := dk_162 0 7 (dk_at dksX3_speaks_2 11 rfl rfl)
theorem dX3_speaks_62 : decode cX3_speaks 62 = .ok (.iload_n 3, 1) := dk_29 (dk_at dksX3_speaks_2 14 rfl rfl)
theorem dX3_speaks_63 : decode cX3_speaks 63 = .ok (.goto 9, 3) := dk_167 0 9 (dk_at dksX3_speaks_2 15 rfl rfl)
theorem dX3_speaks_66 : decode cX3_speaks 66 = .ok (.aload_n 0, 1) := dk_42 (dk_at dksX3_speaks_2 18 rfl rfl)
theorem dX3_speaks_67 : decode cX3_speaks 67 = .ok (.getfield 283, 3) := dk_180 1 27 (dk_at dksX3_speaks_2 19 rfl rfl)
theorem dX3_speaks_70 : decode cX3_speaks 70 = .ok (.iconst 1, 1) := dk_4 (dk_at dksX3_speaks_2 22 rfl rfl)
theorem dX3_speaks_71 : decode cX3_speaks 71 = .ok (.isub, 1) := dk_100 (dk_at dksX3_speaks_2 23 rfl rfl)
theorem dX3_speaks_72 : decode cX3_speaks 72 = .ok (.istore 5, 2) := dk_54 5 (dk_at dksX3_speaks_3 0 rfl rfl)
theorem dX3_speaks_74 : decode cX3_speaks 74 = .ok (.aload_n 0, 1) := dk_42 (dk_at dksX3_speaks_3 2 rfl rfl)
theorem dX3_speaks_75 : decode cX3_speaks 75 = .ok (.iload_n 1, 1) := dk_27 (dk_at dksX3_speaks_3 3 rfl rfl)
theorem dX3_speaks_76 : decode cX3_speaks 76 = .ok (.invokevirtual 327, 3) := dk_182 1 71 (dk_at dksX3_speaks_3 4 rfl rfl)
theorem dX3_speaks_79 : decode cX3_speaks 79 = .ok (.istore 6, 2) := dk_54 6 (dk_at dksX3_speaks_3 7 rfl rfl)
theorem dX3_speaks_81 : decode cX3_speaks 81 = .ok (.iload 6, 2) := dk_21 6 (dk_at dksX3_speaks_3 9 rfl rfl)
theorem dX3_speaks_83 : decode cX3_speaks 83 = .ok (.ifCond .lt 20, 3) := dk_155 0 20 (dk_at dksX3_speaks_3 11 rfl rfl)
theorem dX3_speaks_86 : decode cX3_speaks 86 = .ok (.iconst 1, 1) := dk_4 (dk_at dksX3_speaks_3 14 rfl rfl)
theorem dX3_speaks_87 : decode cX3_speaks 87 = .ok (.istore 4, 2) := dk_54 4 (dk_at dksX3_speaks_3 15 rfl rfl)
theorem dX3_speaks_89 : decode cX3_speaks 89 = .ok (.iload 5, 2) := dk_21 5 (dk_at dksX3_speaks_3 17 rfl rfl)
theorem dX3_speaks_91 : decode cX3_speaks 91 = .ok (.iconst 1, 1) := dk_4 (dk_at dksX3_speaks_3 19 rfl rfl)
theorem dX3_speaks_92 : decode cX3_speaks 92 = .ok (.if_icmp .le 7, 3) := dk_164 0 7 (dk_at dksX3_speaks_3 20 rfl rfl)
theorem dX3_speaks_95 : decode cX3_speaks 95 = .ok (.iconst 1, 1) := dk_4 (dk_at dksX3_speaks_3 23 rfl rfl)
theorem dX3_speaks_96 : decode cX3_speaks 96 = .ok (.goto 5, 3) := dk_167 0 5 (dk_at dksX3_speaks_4 0 rfl rfl)
theorem dX3_speaks_99 : decode cX3_speaks 99 = .ok (.iload 5, 2) := dk_21 5 (dk_at dksX3_speaks_4 3 rfl rfl)
theorem dX3_speaks_101 : decode cX3_speaks 101 = .ok (.istore 5, 2) := dk_54 5 (dk_at dksX3_speaks_4 5 rfl rfl)
theorem dX3_speaks_103 : decode cX3_speaks 103 = .ok (.aload_n 0, 1) := dk_42 (dk_at dksX3_speaks_4 7 rfl rfl)
theorem dX3_speaks_104 : decode cX3_speaks 104 = .ok (.getfield 49, 3) := dk_180 0 49 (dk_at dksX3_speaks_4 8 rfl rfl)
theorem dX3_speaks_107 : decode cX3_speaks 107 = .ok (.iload_n 1, 1) := dk_27 (dk_at dksX3_speaks_4 11 rfl rfl)
theorem dX3_speaks_108 : decode cX3_speaks 108 = .ok (.iload 6, 2) := dk_21 6 (dk_at dksX3_speaks_4 12 rfl rfl)
theorem dX3_speaks_110 : decode cX3_speaks 110 = .ok (.iastore, 1) := dk_79 (dk_at dksX3_speaks_4 14 rfl rfl)
theorem dX3_speaks_111 : decode cX3_speaks 111 = .ok (.aload_n 0, 1) := dk_42 (dk_at dksX3_speaks_4 15 rfl rfl)
theorem dX3_speaks_112 : decode cX3_speaks 112 = .ok (.getfield 64, 3) := dk_180 0 64 (dk_at dksX3_speaks_4 16 rfl rfl)
theorem dX3_speaks_115 : decode cX3_speaks 115 = .ok (.aload_n 0, 1) := dk_42 (dk_at dksX3_speaks_4 19 rfl rfl)
theorem dX3_speaks_116 : decode cX3_speaks 116 = .ok (.getfield 321, 3) := dk_180 1 65 (dk_at dksX3_speaks_4 20 rfl rfl)
theorem dX3_speaks_119 : decode cX3_speaks 119 = .ok (.iload_n 1, 1) := dk_27 (dk_at dksX3_speaks_4 23 rfl rfl)
theorem dX3_speaks_120 : decode cX3_speaks 120 = .ok (.iastore, 1) := dk_79 (dk_at dksX3_speaks_5 0 rfl rfl)
theorem dX3_speaks_121 : decode cX3_speaks 121 = .ok (.aload_n 0, 1) := dk_42 (dk_at dksX3_speaks_5 1 rfl rfl)
theorem dX3_speaks_122 : decode cX3_speaks 122 = .ok (.getfield 67, 3) := dk_180 0 67 (dk_at dksX3_speaks_5 2 rfl rfl)
theorem dX3_speaks_125 : decode cX3_speaks 125 = .ok (.aload_n 0, 1) := dk_42 (dk_at dksX3_speaks_5 5 rfl rfl)
theorem dX3_speaks_126 : decode cX3_speaks 126 = .ok (.getfield 321, 3) := dk_180 1 65 (dk_at dksX3_speaks_5 6 rfl rfl)
theorem dX3_speaks_129 : decode cX3_speaks 129 = .ok (.iload_n 2, 1) := dk_28 (dk_at dksX3_speaks_5 9 rfl rfl)
theorem dX3_speaks_130 : decode cX3_speaks 130 = .ok (.iastore, 1) := dk_79 (dk_at dksX3_speaks_5 10 rfl rfl)
theorem dX3_speaks_131 : decode cX3_speaks 131 = .ok (.aload_n 0, 1) := dk_42 (dk_at dksX3_speaks_5 11 rfl rfl)
theorem dX3_speaks_132 : decode cX3_speaks 132 = .ok (.getfield 70, 3) := dk_180 0 70 (dk_at dksX3_speaks_5 12 rfl rfl)
theorem dX3_speaks_135 : decode cX3_speaks 135 = .ok (.aload_n 0, 1) := dk_42 (dk_at dksX3_speaks_5 15 rfl rfl)
theorem dX3_speaks_136 : decode cX3_speaks 136 = .ok (.getfield 321, 3) := dk_180 1 65 (dk_at dksX3_speaks_5 16 rfl rfl)
theorem dX3_speaks_139 : decode cX3_speaks 139 = .ok (.aload_n 0, 1) := dk_42 (dk_at dksX3_speaks_5 19 rfl rfl)
theorem dX3_speaks_140 : decode cX3_speaks 140 = .ok (.getfield 289, 3) := dk_180 1 33 (dk_at dksX3_speaks_5 20 rfl rfl)
theorem dX3_speaks_143 : decode cX3_speaks 143 = .ok (.iastore, 1) := dk_79 (dk_at dksX3_speaks_5 23 rfl rfl)
theorem dX3_speaks_144 : decode cX3_speaks 144 = .ok (.aload_n 0, 1) := dk_42 (dk_at dksX3_speaks_6 0 rfl rfl)
theorem dX3_speaks_145 : decode cX3_speaks 145 = .ok (.getfield 73, 3) := dk_180 0 73 (dk_at dksX3_speaks_6 1 rfl rfl)
theorem dX3_speaks_148 : decode cX3_speaks 148 = .ok (.aload_n 0, 1) := dk_42 (dk_at dksX3_speaks_6 4 rfl rfl)
theorem dX3_speaks_149 : decode cX3_speaks 149 = .ok (.getfield 321, 3) := dk_180 1 65 (dk_at dksX3_speaks_6 5 rfl rfl)
theorem dX3_speaks_152 : decode cX3_speaks 152 = .ok (.iload 4, 2) := dk_21 4 (dk_at dksX3_speaks_6 8 rfl rfl)
theorem dX3_speaks_154 : decode cX3_speaks 154 = .ok (.iastore, 1) := dk_79 (dk_at dksX3_speaks_6 10 rfl rfl)
theorem dX3_speaks_155 : decode cX3_speaks 155 = .ok (.aload_n 0, 1) := dk_42 (dk_at dksX3_speaks_6 11 rfl rfl)
theorem dX3_speaks_156 : decode cX3_speaks 156 = .ok (.getfield 76, 3) := dk_180 0 76 (dk_at dksX3_speaks_6 12 rfl rfl)
theorem dX3_speaks_159 : decode cX3_speaks 159 = .ok (.aload_n 0, 1) := dk_42 (dk_at dksX3_speaks_6 15 rfl rfl)
theorem dX3_speaks_160 : decode cX3_speaks 160 = .ok (.getfield 321, 3) := dk_180 1 65 (dk_at dksX3_speaks_6 16 rfl rfl)
theorem dX3_speaks_163 : decode cX3_speaks 163 = .ok (.aload_n 0, 1) := dk_42 (dk_at dksX3_speaks_6 19 rfl rfl)
theorem dX3_speaks_164 : decode cX3_speaks 164 = .ok (.iload_n 1, 1) := dk_27 (dk_at dksX3_speaks_6 20 rfl rfl)
theorem dX3_speaks_165 : decode cX3_speaks 165 = .ok (.iload_n 2, 1) := dk_28 (dk_at dksX3_speaks_6 21 rfl rfl)
theorem dX3_speaks_166 : decode cX3_speaks 166 = .ok (.iload 5, 2) := dk_21 5 (dk_at dksX3_speaks_6 22 rfl rfl)
theorem dX3_speaks_168 : decode cX3_speaks 168 = .ok (.invokevirtual 330, 3) := dk_182 1 74 (dk_at dksX3_speaks_7 0 rfl rfl)
theorem dX3_speaks_171 : decode cX3_speaks 171 = .ok (.iastore, 1) := dk_79 (dk_at dksX3_speaks_7 3 rfl rfl)
theorem dX3_speaks_172 : decode cX3_speaks 172 = .ok (.aload_n 0, 1) := dk_42 (dk_at dksX3_speaks_7 4 rfl rfl)
theorem dX3_speaks_173 : decode cX3_speaks 173 = .ok (.getfield 79, 3) := dk_180 0 79 (dk_at dksX3_speaks_7 5 rfl rfl)
theorem dX3_speaks_176 : decode cX3_speaks 176 = .ok (.aload_n 0, 1) := dk_42 (dk_at dksX3_speaks_7 8 rfl rfl)
theorem dX3_speaks_177 : decode cX3_speaks 177 = .ok (.getfield 321, 3) := dk_180 1 65 (dk_at dksX3_speaks_7 9 rfl rfl)
theorem dX3_speaks_180 : decode cX3_speaks 180 = .ok (.aload_n 0, 1) := dk_42 (dk_at dksX3_speaks_7 12 rfl rfl)
theorem dX3_speaks_181 : decode cX3_speaks 181 = .ok (.getfield 76, 3) := dk_180 0 76 (dk_at dksX3_speaks_7 13 rfl rfl)
theorem dX3_speaks_184 : decode cX3_speaks 184 = .ok (.aload_n 0, 1) := dk_42 (dk_at dksX3_speaks_7 16 rfl rfl)
theorem dX3_speaks_185 : decode cX3_speaks 185 = .ok (.getfield 321, 3) := dk_180 1 65 (dk_at dksX3_speaks_7 17 rfl rfl)
theorem dX3_speaks_188 : decode cX3_speaks 188 = .ok (.iaload, 1) := dk_46 (dk_at dksX3_speaks_7 20 rfl rfl)
theorem dX3_speaks_189 : decode cX3_speaks 189 = .ok (.ifCond .ne 12, 3) := dk_154 0 12 (dk_at dksX3_speaks_7 21 rfl rfl)
theorem dX3_speaks_192 : decode cX3_speaks 192 = .ok (.aload_n 0, 1) := dk_42 (dk_at dksX3_speaks_8 0 rfl rfl)
theorem dX3_speaks_193 : decode cX3_speaks 193 = .ok (.iload_n 1, 1) := dk_27 (dk_at dksX3_speaks_8 1 rfl rfl)
theorem dX3_speaks_194 : decode cX3_speaks 194 = .ok (.iload_n 2, 1) := dk_28 (dk_at dksX3_speaks_8 2 rfl rfl)
theorem dX3_speaks_195 : decode cX3_speaks 195 = .ok (.invokevirtual 334, 3) := dk_182 1 78 (dk_at dksX3_speaks_8 3 rfl rfl)
theorem dX3_speaks_198 : decode cX3_speaks 198 = .ok (.goto 5, 3) := dk_167 0 5 (dk_at dksX3_speaks_8 6 rfl rfl)
theorem dX3_speaks_201 : decode cX3_speaks 201 = .ok (.bipush (-2), 2) := dk_16 254 (dk_at dksX3_speaks_8 9 rfl rfl)
theorem dX3_speaks_203 : decode cX3_speaks 203 = .ok (.iastore, 1) := dk_79 (dk_at dksX3_speaks_8 11 rfl rfl)
theorem dX3_speaks_204 : decode cX3_speaks 204 = .ok (.aload_n 0, 1) := dk_42 (dk_at dksX3_speaks_8 12 rfl rfl)
theorem dX3_speaks_205 : decode cX3_speaks 205 = .ok (.getfield 82, 3) := dk_180 0 82 (dk_at dksX3_speaks_8 13 rfl rfl)
theorem dX3_speaks_208 : decode cX3_speaks 208 = .ok (.aload_n 0, 1) := dk_42 (dk_at dksX3_speaks_8 16 rfl rfl)
theorem dX3_speaks_209 : decode cX3_speaks 209 = .ok (.getfield 321, 3) := dk_180 1 65 (dk_at dksX3_speaks_8 17 rfl rfl)
theorem dX3_speaks_212 : decode cX3_speaks 212 = .ok (.iload 6, 2) := dk_21 6 (dk_at dksX3_speaks_8 20 rfl rfl)
theorem dX3_speaks_214 : decode cX3_speaks 214 = .ok (.iastore, 1) := dk_79 (dk_at dksX3_speaks_8 22 rfl rfl)
theorem dX3_speaks_215 : decode cX3_speaks 215 = .ok (.aload_n 0, 1) := dk_42 (dk_at dksX3_speaks_8 23 rfl rfl)
theorem dX3_speaks_216 : decode cX3_speaks 216 = .ok (.dup, 1) := dk_89 (dk_at dksX3_speaks_9 0 rfl rfl)
theorem dX3_speaks_217 : decode cX3_speaks 217 = .ok (.getfield 321, 3) := dk_180 1 65 (dk_at dksX3_speaks_9 1 rfl rfl)
theorem dX3_speaks_220 : decode cX3_speaks 220 = .ok (.iconst 1, 1) := dk_4 (dk_at dksX3_speaks_9 4 rfl rfl)
theorem dX3_speaks_221 : decode cX3_speaks 221 = .ok (.iadd, 1) := dk_96 (dk_at dksX3_speaks_9 5 rfl rfl)
theorem dX3_speaks_222 : decode cX3_speaks 222 = .ok (.putfield 321, 3) := dk_181 1 65 (dk_at dksX3_speaks_9 6 rfl rfl)
theorem dX3_speaks_225 : decode cX3_speaks 225 = .ok (.aload_n 0, 1) := dk_42 (dk_at dksX3_speaks_9 9 rfl rfl)
theorem dX3_speaks_226 : decode cX3_speaks 226 = .ok (.getfield 43, 3) := dk_180 0 43 (dk_at dksX3_speaks_9 10 rfl rfl)
theorem dX3_speaks_229 : decode cX3_speaks 229 = .ok (.iload_n 1, 1) := dk_27 (dk_at dksX3_speaks_9 13 rfl rfl)
theorem dX3_speaks_230 : decode cX3_speaks 230 = .ok (.dup2, 1) := dk_92 (dk_at dksX3_speaks_9 14 rfl rfl)
theorem dX3_speaks_231 : decode cX3_speaks 231 = .ok (.iaload, 1) := dk_46 (dk_at dksX3_speaks_9 15 rfl rfl)
theorem dX3_speaks_232 : decode cX3_speaks 232 = .ok (.iconst 1, 1) := dk_4 (dk_at dksX3_speaks_9 16 rfl rfl)
theorem dX3_speaks_233 : decode cX3_speaks 233 = .ok (.iadd, 1) := dk_96 (dk_at dksX3_speaks_9 17 rfl rfl)
theorem dX3_speaks_234 : decode cX3_speaks 234 = .ok (.iastore, 1) := dk_79 (dk_at dksX3_speaks_9 18 rfl rfl)
theorem dX3_speaks_235 : decode cX3_speaks 235 = .ok (.aload_n 0, 1) := dk_42 (dk_at dksX3_speaks_9 19 rfl rfl)
theorem dX3_speaks_236 : decode cX3_speaks 236 = .ok (.iload_n 1, 1) := dk_27 (dk_at dksX3_speaks_9 20 rfl rfl)
theorem dX3_speaks_237 : decode cX3_speaks 237 = .ok (.putfield 305, 3) := dk_181 1 49 (dk_at dksX3_speaks_9 21 rfl rfl)
theorem dX3_speaks_240 : decode cX3_speaks 240 = .ok (.aload_n 0, 1) := dk_42 (dk_at dksX3_speaks_10 0 rfl rfl)
theorem dX3_speaks_241 : decode cX3_speaks 241 = .ok (.dup, 1) := dk_89 (dk_at dksX3_speaks_10 1 rfl rfl)
theorem dX3_speaks_242 : decode cX3_speaks 242 = .ok (.getfield 289, 3) := dk_180 1 33 (dk_at dksX3_speaks_10 2 rfl rfl)
theorem dX3_speaks_245 : decode cX3_speaks 245 = .ok (.iload 4, 2) := dk_21 4 (dk_at dksX3_speaks_10 5 rfl rfl)
theorem dX3_speaks_247 : decode cX3_speaks 247 = .ok (.iadd, 1) := dk_96 (dk_at dksX3_speaks_10 7 rfl rfl)
theorem dX3_speaks_248 : decode cX3_speaks 248 = .ok (.putfield 289, 3) := dk_181 1 33 (dk_at dksX3_speaks_10 8 rfl rfl)
theorem dX3_speaks_251 : decode cX3_speaks 251 = .ok (.aload_n 0, 1) := dk_42 (dk_at dksX3_speaks_10 11 rfl rfl)
theorem dX3_speaks_252 : decode cX3_speaks 252 = .ok (.getfield 58, 3) := dk_180 0 58 (dk_at dksX3_speaks_10 12 rfl rfl)
theorem dX3_speaks_255 : decode cX3_speaks 255 = .ok (.iload_n 2, 1) := dk_28 (dk_at dksX3_speaks_10 15 rfl rfl)
theorem dX3_speaks_256 : decode cX3_speaks 256 = .ok (.dup2, 1) := dk_92 (dk_at dksX3_speaks_10 16 rfl rfl)
theorem dX3_speaks_257 : decode cX3_speaks 257 = .ok (.iaload, 1) := dk_46 (dk_at dksX3_speaks_10 17 rfl rfl)
theorem dX3_speaks_258 : decode cX3_speaks 258 = .ok (.iload 4, 2) := dk_21 4 (dk_at dksX3_speaks_10 18 rfl rfl)
theorem dX3_speaks_260 : decode cX3_speaks 260 = .ok (.iadd, 1) := dk_96 (dk_at dksX3_speaks_10 20 rfl rfl)
theorem dX3_speaks_261 : decode cX3_speaks 261 = .ok (.iastore, 1) := dk_79 (dk_at dksX3_speaks_10 21 rfl rfl)
theorem dX3_speaks_262 : decode cX3_speaks 262 = .ok (.return_, 1) := dk_177 (dk_at dksX3_speaks_10 22 rfl rfl)
abbrev cX3_stopper : ByteArray := prog_34_method_46_code
def yX3_stopper : MethodName := ⟨RX3, "stopper", "(I)I"⟩
def dkwX3_stopper_3 : List UInt8 := [42, 180, 0, 49, 27, 46, 28, 159, 0, 5, 28, 172, 132, 2, 1, 167, 255, 172, 16, 254, 172]
abbrev dktX3_stopper_3 : List UInt8 := dkwX3_stopper_3 ++ []
def dkwX3_stopper_2 : List UInt8 := [180, 0, 46, 28, 46, 42, 180, 0, 46, 27, 46, 164, 0, 7, 4, 167, 0, 4, 3, 62, 29, 153, 0, 15]
abbrev dktX3_stopper_2 : List UInt8 := dkwX3_stopper_2 ++ dktX3_stopper_3
def dkwX3_stopper_1 : List UInt8 := [180, 0, 9, 16, 10, 28, 96, 46, 42, 180, 0, 9, 16, 10, 27, 96, 46, 6, 96, 161, 0, 22, 42]
abbrev dktX3_stopper_1 : List UInt8 := dkwX3_stopper_1 ++ dktX3_stopper_2
def dkwX3_stopper_0 : List UInt8 := [3, 61, 28, 42, 180, 0, 159, 162, 0, 82, 28, 27, 159, 0, 53, 42, 28, 182, 1, 43, 153, 0, 45, 42]
abbrev dktX3_stopper_0 : List UInt8 := dkwX3_stopper_0 ++ dktX3_stopper_1
theorem dksX3_stopper_0 : cX3_stopper.data.toList.drop 0 = dktX3_stopper_0 := by decide +kernel
theorem dksX3_stopper_1 : cX3_stopper.data.toList.drop 24 = dktX3_stopper_1 := dk_seg dksX3_stopper_0 24 rfl rfl
theorem dksX3_stopper_2 : cX3_stopper.data.toList.drop 47 = dktX3_stopper_2 := dk_seg dksX3_stopper_1 23 rfl rfl
theorem dksX3_stopper_3 : cX3_stopper.data.toList.drop 71 = dktX3_stopper_3 := dk_seg dksX3_stopper_2 24 rfl rfl
theorem dX3_stopper_0 : decode cX3_stopper 0 = .ok (.iconst 0, 1) := dk_3 (dk_at dksX3_stopper_0 0 rfl rfl)
theorem dX3_stopper_1 : decode cX3_stopper 1 = .ok (.istore_n 2, 1) := dk_61 (dk_at dksX3_stopper_0 1 rfl rfl)
theorem dX3_stopper_2 : decode cX3_stopper 2 = .ok (.iload_n 2, 1) := dk_28 (dk_at dksX3_stopper_0 2 rfl rfl)
theorem dX3_stopper_3 : decode cX3_stopper 3 = .ok (.aload_n 0, 1) := dk_42 (dk_at dksX3_stopper_0 3 rfl rfl)
theorem dX3_stopper_4 : decode cX3_stopper 4 = .ok (.getfield 159, 3) := dk_180 0 159 (dk_at dksX3_stopper_0 4 rfl rfl)
theorem dX3_stopper_7 : decode cX3_stopper 7 = .ok (.if_icmp .ge 82, 3) := dk_162 0 82 (dk_at dksX3_stopper_0 7 rfl rfl)
theorem dX3_stopper_10 : decode cX3_stopper 10 = .ok (.iload_n 2, 1) := dk_28 (dk_at dksX3_stopper_0 10 rfl rfl)
theorem dX3_stopper_11 : decode cX3_stopper 11 = .ok (.iload_n 1, 1) := dk_27 (dk_at dksX3_stopper_0 11 rfl rfl)
theorem dX3_stopper_12 : decode cX3_stopper 12 = .ok (.if_icmp .eq 53, 3) := dk_159 0 53 (dk_at dksX3_stopper_0 12 rfl rfl)
theorem dX3_stopper_15 : decode cX3_stopper 15 = .ok (.aload_n 0, 1) := dk_42 (dk_at dksX3_stopper_0 15 rfl rfl)
theorem dX3_stopper_16 : decode cX3_stopper 16 = .ok (.iload_n 2, 1) := dk_28 (dk_at dksX3_stopper_0 16 rfl rfl)
theorem dX3_stopper_17 : decode cX3_stopper 17 = .ok (.invokevirtual 299, 3) := dk_182 1 43 (dk_at dksX3_stopper_0 17 rfl rfl)
theorem dX3_stopper_20 : decode cX3_stopper 20 = .ok (.ifCond .eq 45, 3) := dk_153 0 45 (dk_at dksX3_stopper_0 20 rfl rfl)
theorem dX3_stopper_23 : decode cX3_stopper 23 = .ok (.aload_n 0, 1) := dk_42 (dk_at dksX3_stopper_0 23 rfl rfl)
theorem dX3_stopper_24 : decode cX3_stopper 24 = .ok (.getfield 9, 3) := dk_180 0 9 (dk_at dksX3_stopper_1 0 rfl rfl)
theorem dX3_stopper_27 : decode cX3_stopper 27 = .ok (.bipush 10, 2) := dk_16 10 (dk_at dksX3_stopper_1 3 rfl rfl)
theorem dX3_stopper_29 : decode cX3_stopper 29 = .ok (.iload_n 2, 1) := dk_28 (dk_at dksX3_stopper_1 5 rfl rfl)
theorem dX3_stopper_30 : decode cX3_stopper 30 = .ok (.iadd, 1) := dk_96 (dk_at dksX3_stopper_1 6 rfl rfl)
theorem dX3_stopper_31 : decode cX3_stopper 31 = .ok (.iaload, 1) := dk_46 (dk_at dksX3_stopper_1 7 rfl rfl)
theorem dX3_stopper_32 : decode cX3_stopper 32 = .ok (.aload_n 0, 1) := dk_42 (dk_at dksX3_stopper_1 8 rfl rfl)
theorem dX3_stopper_33 : decode cX3_stopper 33 = .ok (.getfield 9, 3) := dk_180 0 9 (dk_at dksX3_stopper_1 9 rfl rfl)
theorem dX3_stopper_36 : decode cX3_stopper 36 = .ok (.bipush 10, 2) := dk_16 10 (dk_at dksX3_stopper_1 12 rfl rfl)
theorem dX3_stopper_38 : decode cX3_stopper 38 = .ok (.iload_n 1, 1) := dk_27 (dk_at dksX3_stopper_1 14 rfl rfl)
theorem dX3_stopper_39 : decode cX3_stopper 39 = .ok (.iadd, 1) := dk_96 (dk_at dksX3_stopper_1 15 rfl rfl)
theorem dX3_stopper_40 : decode cX3_stopper 40 = .ok (.iaload, 1) := dk_46 (dk_at dksX3_stopper_1 16 rfl rfl)
theorem dX3_stopper_41 : decode cX3_stopper 41 = .ok (.iconst 3, 1) := dk_6 (dk_at dksX3_stopper_1 17 rfl rfl)
theorem dX3_stopper_42 : decode cX3_stopper 42 = .ok (.iadd, 1) := dk_96 (dk_at dksX3_stopper_1 18 rfl rfl)
theorem dX3_stopper_43 : decode cX3_stopper 43 = .ok (.if_icmp .lt 22, 3) := dk_161 0 22 (dk_at dksX3_stopper_1 19 rfl rfl)
theorem dX3_stopper_46 : decode cX3_stopper 46 = .ok (.aload_n 0, 1) := dk_42 (dk_at dksX3_stopper_1 22 rfl rfl)
theorem dX3_stopper_47 : decode cX3_stopper 47 = .ok (.getfield 46, 3) := dk_180 0 46 (dk_at dksX3_stopper_2 0 rfl rfl)
theorem dX3_stopper_50 : decode cX3_stopper 50 = .ok (.iload_n 2, 1) := dk_28 (dk_at dksX3_stopper_2 3 rfl rfl)
theorem dX3_stopper_51 : decode cX3_stopper 51 = .ok (.iaload, 1) := dk_46 (dk_at dksX3_stopper_2 4 rfl rfl)
theorem dX3_stopper_52 : decode cX3_stopper 52 = .ok (.aload_n 0, 1) := dk_42 (dk_at dksX3_stopper_2 5 rfl rfl)
theorem dX3_stopper_53 : decode cX3_stopper 53 = .ok (.getfield 46, 3) := dk_180 0 46 (dk_at dksX3_stopper_2 6 rfl rfl)
theorem dX3_stopper_56 : decode cX3_stopper 56 = .ok (.iload_n 1, 1) := dk_27 (dk_at dksX3_stopper_2 9 rfl rfl)
theorem dX3_stopper_57 : decode cX3_stopper 57 = .ok (.iaload, 1) := dk_46 (dk_at dksX3_stopper_2 10 rfl rfl)
theorem dX3_stopper_58 : decode cX3_stopper 58 = .ok (.if_icmp .le 7, 3) := dk_164 0 7 (dk_at dksX3_stopper_2 11 rfl rfl)
theorem dX3_stopper_61 : decode cX3_stopper 61 = .ok (.iconst 1, 1) := dk_4 (dk_at dksX3_stopper_2 14 rfl rfl)
theorem dX3_stopper_62 : decode cX3_stopper 62 = .ok (.goto 4, 3) := dk_167 0 4 (dk_at dksX3_stopper_2 15 rfl rfl)
theorem dX3_stopper_65 : decode cX3_stopper 65 = .ok (.iconst 0, 1) := dk_3 (dk_at dksX3_stopper_2 18 rfl rfl)
theorem dX3_stopper_66 : decode cX3_stopper 66 = .ok (.istore_n 3, 1) := dk_62 (dk_at dksX3_stopper_2 19 rfl rfl)
theorem dX3_stopper_67 : decode cX3_stopper 67 = .ok (.iload_n 3, 1) := dk_29 (dk_at dksX3_stopper_2 20 rfl rfl)
theorem dX3_stopper_68 : decode cX3_stopper 68 = .ok (.ifCond .eq 15, 3) := dk_153 0 15 (dk_at dksX3_stopper_2 21 rfl rfl)
theorem dX3_stopper_71 : decode cX3_stopper 71 = .ok (.aload_n 0, 1) := dk_42 (dk_at dksX3_stopper_3 0 rfl rfl)
theorem dX3_stopper_72 : decode cX3_stopper 72 = .ok (.getfield 49, 3) := dk_180 0 49 (dk_at dksX3_stopper_3 1 rfl rfl)
theorem dX3_stopper_75 : decode cX3_stopper 75 = .ok (.iload_n 1, 1) := dk_27 (dk_at dksX3_stopper_3 4 rfl rfl)
theorem dX3_stopper_76 : decode cX3_stopper 76 = .ok (.iaload, 1) := dk_46 (dk_at dksX3_stopper_3 5 rfl rfl)
theorem dX3_stopper_77 : decode cX3_stopper 77 = .ok (.iload_n 2, 1) := dk_28 (dk_at dksX3_stopper_3 6 rfl rfl)
theorem dX3_stopper_78 : decode cX3_stopper 78 = .ok (.if_icmp .eq 5, 3) := dk_159 0 5 (dk_at dksX3_stopper_3 7 rfl rfl)
theorem dX3_stopper_81 : decode cX3_stopper 81 = .ok (.iload_n 2, 1) := dk_28 (dk_at dksX3_stopper_3 10 rfl rfl)
theorem dX3_stopper_82 : decode cX3_stopper 82 = .ok (.ireturn, 1) := dk_172 (dk_at dksX3_stopper_3 11 rfl rfl)
theorem dX3_stopper_83 : decode cX3_stopper 83 = .ok (.iinc 2 1, 3) := dk_132 2 1 (dk_at dksX3_stopper_3 12 rfl rfl)
theorem dX3_stopper_86 : decode cX3_stopper 86 = .ok (.goto (-84), 3) := dk_167 255 172 (dk_at dksX3_stopper_3 15 rfl rfl)
theorem dX3_stopper_89 : decode cX3_stopper 89 = .ok (.bipush (-2), 2) := dk_16 254 (dk_at dksX3_stopper_3 18 rfl rfl)
theorem dX3_stopper_91 : decode cX3_stopper 91 = .ok (.ireturn, 1) := dk_172 (dk_at dksX3_stopper_3 20 rfl rfl)
abbrev cX3_saysNew : ByteArray := prog_34_method_47_code
def yX3_saysNew : MethodName := ⟨RX3, "saysNew", "(III)I"⟩
def dkwX3_saysNew_3 : List UInt8 := [79, 21, 4, 4, 21, 6, 120, 128, 54, 4, 132, 5, 1, 132, 6, 1, 167, 255, 177, 21, 4, 172]
abbrev dktX3_saysNew_3 : List UInt8 := dkwX3_saysNew_3 ++ []
def dkwX3_saysNew_2 : List UInt8 := [182, 1, 40, 154, 0, 34, 42, 180, 0, 52, 21, 6, 27, 79, 42, 180, 0, 55, 21, 6, 42, 180, 1, 65]
abbrev dktX3_saysNew_2 : List UInt8 := dkwX3_saysNew_2 ++ dktX3_saysNew_3
def dkwX3_saysNew_1 : List UInt8 := [42, 180, 0, 25, 21, 6, 46, 28, 160, 0, 53, 42, 27, 21, 6, 182, 1, 36, 153, 0, 43, 42, 21, 6]
abbrev dktX3_saysNew_1 : List UInt8 := dkwX3_saysNew_1 ++ dktX3_saysNew_2
def dkwX3_saysNew_0 : List UInt8 := [3, 54, 4, 3, 54, 5, 3, 54, 6, 21, 6, 42, 180, 0, 169, 162, 0, 76, 21, 5, 29, 162, 0, 64]
abbrev dktX3_saysNew_0 : List UInt8 := dkwX3_saysNew_0 ++ dktX3_saysNew_1
theorem dksX3_saysNew_0 : cX3_saysNew.data.toList.drop 0 = dktX3_saysNew_0 := by decide +kernel
theorem dksX3_saysNew_1 : cX3_saysNew.data.toList.drop 24 = dktX3_saysNew_1 := dk_seg dksX3_saysNew_0 24 rfl rfl
theorem dksX3_saysNew_2 : cX3_saysNew.data.toList.drop 48 = dktX3_saysNew_2 := dk_seg dksX3_saysNew_1 24 rfl rfl
theorem dksX3_saysNew_3 : cX3_saysNew.data.toList.drop 72 = dktX3_saysNew_3 := dk_seg dksX3_saysNew_2 24 rfl rfl
theorem dX3_saysNew_0 : decode cX3_saysNew 0 = .ok (.iconst 0, 1) := dk_3 (dk_at dksX3_saysNew_0 0 rfl rfl)
theorem dX3_saysNew_1 : decode cX3_saysNew 1 = .ok (.istore 4, 2) := dk_54 4 (dk_at dksX3_saysNew_0 1 rfl rfl)
theorem dX3_saysNew_3 : decode cX3_saysNew 3 = .ok (.iconst 0, 1) := dk_3 (dk_at dksX3_saysNew_0 3 rfl rfl)
theorem dX3_saysNew_4 : decode cX3_saysNew 4 = .ok (.istore 5, 2) := dk_54 5 (dk_at dksX3_saysNew_0 4 rfl rfl)
theorem dX3_saysNew_6 : decode cX3_saysNew 6 = .ok (.iconst 0, 1) := dk_3 (dk_at dksX3_saysNew_0 6 rfl rfl)
theorem dX3_saysNew_7 : decode cX3_saysNew 7 = .ok (.istore 6, 2) := dk_54 6 (dk_at dksX3_saysNew_0 7 rfl rfl)
theorem dX3_saysNew_9 : decode cX3_saysNew 9 = .ok (.iload 6, 2) := dk_21 6 (dk_at dksX3_saysNew_0 9 rfl rfl)
theorem dX3_saysNew_11 : decode cX3_saysNew 11 = .ok (.aload_n 0, 1) := dk_42 (dk_at dksX3_saysNew_0 11 rfl rfl)
theorem dX3_saysNew_12 : decode cX3_saysNew 12 = .ok (.getfield 169, 3) := dk_180 0 169 (dk_at dksX3_saysNew_0 12 rfl rfl)
theorem dX3_saysNew_15 : decode cX3_saysNew 15 = .ok (.if_icmp .ge 76, 3) := dk_162 0 76 (dk_at dksX3_saysNew_0 15 rfl rfl)
theorem dX3_saysNew_18 : decode cX3_saysNew 18 = .ok (.iload 5, 2) := dk_21 5 (dk_at dksX3_saysNew_0 18 rfl rfl)
theorem dX3_saysNew_20 : decode cX3_saysNew 20 = .ok (.iload_n 3, 1) := dk_29 (dk_at dksX3_saysNew_0 20 rfl rfl)
theorem dX3_saysNew_21 : decode cX3_saysNew 21 = .ok (.if_icmp .ge 64, 3) := dk_162 0 64 (dk_at dksX3_saysNew_0 21 rfl rfl)
theorem dX3_saysNew_24 : decode cX3_saysNew 24 = .ok (.aload_n 0, 1) := dk_42 (dk_at dksX3_saysNew_1 0 rfl rfl)
theorem dX3_saysNew_25 : decode cX3_saysNew 25 = .ok (.getfield 25, 3) := dk_180 0 25 (dk_at dksX3_saysNew_1 1 rfl rfl)
theorem dX3_saysNew_28 : decode cX3_saysNew 28 = .ok (.iload 6, 2) := dk_21 6 (dk_at dksX3_saysNew_1 4 rfl rfl)
theorem dX3_saysNew_30 : decode cX3_saysNew 30 = .ok (.iaload, 1) := dk_46 (dk_at dksX3_saysNew_1 6 rfl rfl)
theorem dX3_saysNew_31 : decode cX3_saysNew 31 = .ok (.iload_n 2, 1) := dk_28 (dk_at dksX3_saysNew_1 7 rfl rfl)
theorem dX3_saysNew_32 : decode cX3_saysNew 32 = .ok (.if_icmp .ne 53, 3) := dk_160 0 53 (dk_at dksX3_saysNew_1 8 rfl rfl)
theorem dX3_saysNew_35 : decode cX3_saysNew 35 = .ok (.aload_n 0, 1) := dk_42 (dk_at dksX3_saysNew_1 11 rfl rfl)
theorem dX3_saysNew_36 : decode cX3_saysNew 36 = .ok (.iload_n 1, 1) := dk_27 (dk_at dksX3_saysNew_1 12 rfl rfl)
theorem dX3_saysNew_37 : decode cX3_saysNew 37 = .ok (.iload 6, 2) := dk_21 6 (dk_at dksX3_saysNew_1 13 rfl rfl)
theorem dX3_saysNew_39 : decode cX3_saysNew 39 = .ok (.invokevirtual 292, 3) := dk_182 1 36 (dk_at dksX3_saysNew_1 15 rfl rfl)
theorem dX3_saysNew_42 : decode cX3_saysNew 42 = .ok (.ifCond .eq 43, 3) := dk_153 0 43 (dk_at dksX3_saysNew_1 18 rfl rfl)
theorem dX3_saysNew_45 : decode cX3_saysNew 45 = .ok (.aload_n 0, 1) := dk_42 (dk_at dksX3_saysNew_1 21 rfl rfl)
theorem dX3_saysNew_46 : decode cX3_saysNew 46 = .ok (.iload 6, 2) := dk_21 6 (dk_at dksX3_saysNew_1 22 rfl rfl)
theorem dX3_saysNew_48 : decode cX3_saysNew 48 = .ok (.invokevirtual 296, 3) := dk_182 1 40 (dk_at dksX3_saysNew_2 0 rfl rfl)
theorem dX3_saysNew_51 : decode cX3_saysNew 51 = .ok (.ifCond .ne 34, 3) := dk_154 0 34 (dk_at dksX3_saysNew_2 3 rfl rfl)
theorem dX3_saysNew_54 : decode cX3_saysNew 54 = .ok (.aload_n 0, 1) := dk_42 (dk_at dksX3_saysNew_2 6 rfl rfl)
theorem dX3_saysNew_55 : decode cX3_saysNew 55 = .ok (.getfield 52, 3) := dk_180 0 52 (dk_at dksX3_saysNew_2 7 rfl rfl)
theorem dX3_saysNew_58 : decode cX3_saysNew 58 = .ok (.iload 6, 2) := dk_21 6 (dk_at dksX3_saysNew_2 10 rfl rfl)
theorem dX3_saysNew_60 : decode cX3_saysNew 60 = .ok (.iload_n 1, 1) := dk_27 (dk_at dksX3_saysNew_2 12 rfl rfl)
theorem dX3_saysNew_61 : decode cX3_saysNew 61 = .ok (.iastore, 1) := dk_79 (dk_at dksX3_saysNew_2 13 rfl rfl)
theorem dX3_saysNew_62 : decode cX3_saysNew 62 = .ok (.aload_n 0, 1) := dk_42 (dk_at dksX3_saysNew_2 14 rfl rfl)
theorem dX3_saysNew_63 : decode cX3_saysNew 63 = .ok (.getfield 55, 3) := dk_180 0 55 (dk_at dksX3_saysNew_2 15 rfl rfl)
theorem dX3_saysNew_66 : decode cX3_saysNew 66 = .ok (.iload 6, 2) := dk_21 6 (dk_at dksX3_saysNew_2 18 rfl rfl)
theorem dX3_saysNew_68 : decode cX3_saysNew 68 = .ok (.aload_n 0, 1) := dk_42 (dk_at dksX3_saysNew_2 20 rfl rfl)
theorem dX3_saysNew_69 : decode cX3_saysNew 69 = .ok (.getfield 321, 3) := dk_180 1 65 (dk_at dksX3_saysNew_2 21 rfl rfl)
theorem dX3_saysNew_72 : decode cX3_saysNew 72 = .ok (.iastore, 1) := dk_79 (dk_at dksX3_saysNew_3 0 rfl rfl)
theorem dX3_saysNew_73 : decode cX3_saysNew 73 = .ok (.iload 4, 2) := dk_21 4 (dk_at dksX3_saysNew_3 1 rfl rfl)
theorem dX3_saysNew_75 : decode cX3_saysNew 75 = .ok (.iconst 1, 1) := dk_4 (dk_at dksX3_saysNew_3 3 rfl rfl)
theorem dX3_saysNew_76 : decode cX3_saysNew 76 = .ok (.iload 6, 2) := dk_21 6 (dk_at dksX3_saysNew_3 4 rfl rfl)
theorem dX3_saysNew_78 : decode cX3_saysNew 78 = .ok (.ishl, 1) := dk_120 (dk_at dksX3_saysNew_3 6 rfl rfl)
theorem dX3_saysNew_79 : decode cX3_saysNew 79 = .ok (.ior, 1) := dk_128 (dk_at dksX3_saysNew_3 7 rfl rfl)
theorem dX3_saysNew_80 : decode cX3_saysNew 80 = .ok (.istore 4, 2) := dk_54 4 (dk_at dksX3_saysNew_3 8 rfl rfl)
theorem dX3_saysNew_82 : decode cX3_saysNew 82 = .ok (.iinc 5 1, 3) := dk_132 5 1 (dk_at dksX3_saysNew_3 10 rfl rfl)
theorem dX3_saysNew_85 : decode cX3_saysNew 85 = .ok (.iinc 6 1, 3) := dk_132 6 1 (dk_at dksX3_saysNew_3 13 rfl rfl)
theorem dX3_saysNew_88 : decode cX3_saysNew 88 = .ok (.goto (-79), 3) := dk_167 255 177 (dk_at dksX3_saysNew_3 16 rfl rfl)
theorem dX3_saysNew_91 : decode cX3_saysNew 91 = .ok (.iload 4, 2) := dk_21 4 (dk_at dksX3_saysNew_3 19 rfl rfl)
theorem dX3_saysNew_93 : decode cX3_saysNew 93 = .ok (.ireturn, 1) := dk_172 (dk_at dksX3_saysNew_3 21 rfl rfl)
abbrev cX3_saysAgain : ByteArray := prog_34_method_48_code
def yX3_saysAgain : MethodName := ⟨RX3, "saysAgain", "(II)I"⟩
def dkwX3_saysAgain_2 : List UInt8 := [172]
abbrev dktX3_saysAgain_2 : List UInt8 := dkwX3_saysAgain_2 ++ []
def dkwX3_saysAgain_1 : List UInt8 := [182, 1, 36, 153, 0, 13, 42, 29, 182, 1, 40, 153, 0, 5, 29, 172, 132, 3, 1, 167, 255, 216, 16, 254]
abbrev dktX3_saysAgain_1 : List UInt8 := dkwX3_saysAgain_1 ++ dktX3_saysAgain_2
def dkwX3_saysAgain_0 : List UInt8 := [3, 62, 29, 42, 180, 0, 169, 162, 0, 38, 42, 180, 0, 25, 29, 46, 28, 160, 0, 22, 42, 27, 29]
abbrev dktX3_saysAgain_0 : List UInt8 := dkwX3_saysAgain_0 ++ dktX3_saysAgain_1
theorem dksX3_saysAgain_0 : cX3_saysAgain.data.toList.drop 0 = dktX3_saysAgain_0 := by decide +kernel
theorem dksX3_saysAgain_1 : cX3_saysAgain.data.toList.drop 23 = dktX3_saysAgain_1 := dk_seg dksX3_saysAgain_0 23 rfl rfl
theorem dksX3_saysAgain_2 : cX3_saysAgain.data.toList.drop 47 = dktX3_saysAgain_2 := dk_seg dksX3_saysAgain_1 24 rfl rfl
theorem dX3_saysAgain_0 : decode cX3_saysAgain 0 = .ok (.iconst 0, 1) := dk_3 (dk_at dksX3_saysAgain_0 0 rfl rfl)
theorem dX3_saysAgain_1 : decode cX3_saysAgain 1 = .ok (.istore_n 3, 1) := dk_62 (dk_at dksX3_saysAgain_0 1 rfl rfl)
theorem dX3_saysAgain_2 : decode cX3_saysAgain 2 = .ok (.iload_n 3, 1) := dk_29 (dk_at dksX3_saysAgain_0 2 rfl rfl)
theorem dX3_saysAgain_3 : decode cX3_saysAgain 3 = .ok (.aload_n 0, 1) := dk_42 (dk_at dksX3_saysAgain_0 3 rfl rfl)
theorem dX3_saysAgain_4 : decode cX3_saysAgain 4 = .ok (.getfield 169, 3) := dk_180 0 169 (dk_at dksX3_saysAgain_0 4 rfl rfl)
theorem dX3_saysAgain_7 : decode cX3_saysAgain 7 = .ok (.if_icmp .ge 38, 3) := dk_162 0 38 (dk_at dksX3_saysAgain_0 7 rfl rfl)
theorem dX3_saysAgain_10 : decode cX3_saysAgain 10 = .ok (.aload_n 0, 1) := dk_42 (dk_at dksX3_saysAgain_0 10 rfl rfl)
theorem dX3_saysAgain_11 : decode cX3_saysAgain 11 = .ok (.getfield 25, 3) := dk_180 0 25 (dk_at dksX3_saysAgain_0 11 rfl rfl)
theorem dX3_saysAgain_14 : decode cX3_saysAgain 14 = .ok (.iload_n 3, 1) := dk_29 (dk_at dksX3_saysAgain_0 14 rfl rfl)
theorem dX3_saysAgain_15 : decode cX3_saysAgain 15 = .ok (.iaload, 1) := dk_46 (dk_at dksX3_saysAgain_0 15 rfl rfl)
theorem dX3_saysAgain_16 : decode cX3_saysAgain 16 = .ok (.iload_n 2, 1) := dk_28 (dk_at dksX3_saysAgain_0 16 rfl rfl)
theorem dX3_saysAgain_17 : decode cX3_saysAgain 17 = .ok (.if_icmp .ne 22, 3) := dk_160 0 22 (dk_at dksX3_saysAgain_0 17 rfl rfl)
theorem dX3_saysAgain_20 : decode cX3_saysAgain 20 = .ok (.aload_n 0, 1) := dk_42 (dk_at dksX3_saysAgain_0 20 rfl rfl)
theorem dX3_saysAgain_21 : decode cX3_saysAgain 21 = .ok (.iload_n 1, 1) := dk_27 (dk_at dksX3_saysAgain_0 21 rfl rfl)
theorem dX3_saysAgain_22 : decode cX3_saysAgain 22 = .ok (.iload_n 3, 1) := dk_29 (dk_at dksX3_saysAgain_0 22 rfl rfl)
theorem dX3_saysAgain_23 : decode cX3_saysAgain 23 = .ok (.invokevirtual 292, 3) := dk_182 1 36 (dk_at dksX3_saysAgain_1 0 rfl rfl)
theorem dX3_saysAgain_26 : decode cX3_saysAgain 26 = .ok (.ifCond .eq 13, 3) := dk_153 0 13 (dk_at dksX3_saysAgain_1 3 rfl rfl)
theorem dX3_saysAgain_29 : decode cX3_saysAgain 29 = .ok (.aload_n 0, 1) := dk_42 (dk_at dksX3_saysAgain_1 6 rfl rfl)
theorem dX3_saysAgain_30 : decode cX3_saysAgain 30 = .ok (.iload_n 3, 1) := dk_29 (dk_at dksX3_saysAgain_1 7 rfl rfl)
theorem dX3_saysAgain_31 : decode cX3_saysAgain 31 = .ok (.invokevirtual 296, 3) := dk_182 1 40 (dk_at dksX3_saysAgain_1 8 rfl rfl)
theorem dX3_saysAgain_34 : decode cX3_saysAgain 34 = .ok (.ifCond .eq 5, 3) := dk_153 0 5 (dk_at dksX3_saysAgain_1 11 rfl rfl)
theorem dX3_saysAgain_37 : decode cX3_saysAgain 37 = .ok (.iload_n 3, 1) := dk_29 (dk_at dksX3_saysAgain_1 14 rfl rfl)
theorem dX3_saysAgain_38 : decode cX3_saysAgain 38 = .ok (.ireturn, 1) := dk_172 (dk_at dksX3_saysAgain_1 15 rfl rfl)
theorem dX3_saysAgain_39 : decode cX3_saysAgain 39 = .ok (.iinc 3 1, 3) := dk_132 3 1 (dk_at dksX3_saysAgain_1 16 rfl rfl)
theorem dX3_saysAgain_42 : decode cX3_saysAgain 42 = .ok (.goto (-40), 3) := dk_167 255 216 (dk_at dksX3_saysAgain_1 19 rfl rfl)
theorem dX3_saysAgain_45 : decode cX3_saysAgain 45 = .ok (.bipush (-2), 2) := dk_16 254 (dk_at dksX3_saysAgain_1 22 rfl rfl)
theorem dX3_saysAgain_47 : decode cX3_saysAgain 47 = .ok (.ireturn, 1) := dk_172 (dk_at dksX3_saysAgain_2 0 rfl rfl)
abbrev cX3_keepsRows : ByteArray := prog_34_method_65_code
def yX3_keepsRows : MethodName := ⟨RX3, "keepsRows", "()V"⟩
def dkwX3_keepsRows_10 : List UInt8 := [167, 255, 234, 177]
abbrev dktX3_keepsRows_10 : List UInt8 := dkwX3_keepsRows_10 ++ []
def dkwX3_keepsRows_9 : List UInt8 := [3, 60, 27, 42, 180, 0, 159, 162, 0, 20, 42, 180, 0, 121, 27, 42, 27, 182, 1, 114, 79, 132, 1, 1]
abbrev dktX3_keepsRows_9 : List UInt8 := dkwX3_keepsRows_9 ++ dktX3_keepsRows_10
def dkwX3_keepsRows_8 : List UInt8 := [180, 0, 52, 27, 46, 79, 42, 180, 0, 118, 27, 42, 180, 0, 55, 27, 46, 79, 132, 1, 1, 167, 255, 221]
abbrev dktX3_keepsRows_8 : List UInt8 := dkwX3_keepsRows_8 ++ dktX3_keepsRows_9
def dkwX3_keepsRows_7 : List UInt8 := [132, 1, 1, 167, 255, 222, 3, 60, 27, 42, 180, 0, 169, 162, 0, 33, 42, 180, 0, 115, 27, 42]
abbrev dktX3_keepsRows_7 : List UInt8 := dkwX3_keepsRows_7 ++ dktX3_keepsRows_8
def dkwX3_keepsRows_6 : List UInt8 := [180, 0, 109, 27, 42, 180, 0, 58, 27, 46, 79, 42, 180, 0, 112, 27, 42, 27, 182, 1, 99, 79]
abbrev dktX3_keepsRows_6 : List UInt8 := dkwX3_keepsRows_6 ++ dktX3_keepsRows_7
def dkwX3_keepsRows_5 : List UInt8 := [180, 0, 82, 27, 46, 79, 132, 1, 1, 167, 255, 161, 3, 60, 27, 42, 180, 0, 166, 162, 0, 32, 42]
abbrev dktX3_keepsRows_5 : List UInt8 := dkwX3_keepsRows_5 ++ dktX3_keepsRows_6
def dkwX3_keepsRows_4 : List UInt8 := [180, 0, 76, 27, 46, 79, 42, 180, 0, 103, 27, 42, 180, 0, 79, 27, 46, 79, 42, 180, 0, 106, 27, 42]
abbrev dktX3_keepsRows_4 : List UInt8 := dkwX3_keepsRows_4 ++ dktX3_keepsRows_5
def dkwX3_keepsRows_3 : List UInt8 := [180, 0, 70, 27, 46, 79, 42, 180, 0, 97, 27, 42, 180, 0, 73, 27, 46, 79, 42, 180, 0, 100, 27, 42]
abbrev dktX3_keepsRows_3 : List UInt8 := dkwX3_keepsRows_3 ++ dktX3_keepsRows_4
def dkwX3_keepsRows_2 : List UInt8 := [180, 0, 64, 27, 46, 79, 42, 180, 0, 91, 27, 42, 180, 0, 67, 27, 46, 79, 42, 180, 0, 94, 27, 42]
abbrev dktX3_keepsRows_2 : List UInt8 := dkwX3_keepsRows_2 ++ dktX3_keepsRows_3
def dkwX3_keepsRows_1 : List UInt8 := [42, 42, 180, 0, 169, 181, 1, 129, 3, 60, 27, 42, 180, 1, 65, 162, 0, 93, 42, 180, 0, 88, 27, 42]
abbrev dktX3_keepsRows_1 : List UInt8 := dkwX3_keepsRows_1 ++ dktX3_keepsRows_2
def dkwX3_keepsRows_0 : List UInt8 := [42, 42, 180, 1, 65, 181, 0, 150, 42, 42, 180, 0, 159, 181, 1, 123, 42, 42, 180, 0, 166, 181, 1, 126]
abbrev dktX3_keepsRows_0 : List UInt8 := dkwX3_keepsRows_0 ++ dktX3_keepsRows_1
theorem dksX3_keepsRows_0 : cX3_keepsRows.data.toList.drop 0 = dktX3_keepsRows_0 := by decide +kernel
theorem dksX3_keepsRows_1 : cX3_keepsRows.data.toList.drop 24 = dktX3_keepsRows_1 := dk_seg dksX3_keepsRows_0 24 rfl rfl
theorem dksX3_keepsRows_2 : cX3_keepsRows.data.toList.drop 48 = dktX3_keepsRows_2 := dk_seg dksX3_keepsRows_1 24 rfl rfl
theorem dksX3_keepsRows_3 : cX3_keepsRows.data.toList.drop 72 = dktX3_keepsRows_3 := dk_seg dksX3_keepsRows_2 24 rfl rfl
theorem dksX3_keepsRows_4 : cX3_keepsRows.data.toList.drop 96 = dktX3_keepsRows_4 := dk_seg dksX3_keepsRows_3 24 rfl rfl
theorem dksX3_keepsRows_5 : cX3_keepsRows.data.toList.drop 120 = dktX3_keepsRows_5 := dk_seg dksX3_keepsRows_4 24 rfl rfl
theorem dksX3_keepsRows_6 : cX3_keepsRows.data.toList.drop 143 = dktX3_keepsRows_6 := dk_seg dksX3_keepsRows_5 23 rfl rfl
theorem dksX3_keepsRows_7 : cX3_keepsRows.data.toList.drop 165 = dktX3_keepsRows_7 := dk_seg dksX3_keepsRows_6 22 rfl rfl
theorem dksX3_keepsRows_8 : cX3_keepsRows.data.toList.drop 187 = dktX3_keepsRows_8 := dk_seg dksX3_keepsRows_7 22 rfl rfl
theorem dksX3_keepsRows_9 : cX3_keepsRows.data.toList.drop 211 = dktX3_keepsRows_9 := dk_seg dksX3_keepsRows_8 24 rfl rfl
theorem dksX3_keepsRows_10 : cX3_keepsRows.data.toList.drop 235 = dktX3_keepsRows_10 := dk_seg dksX3_keepsRows_9 24 rfl rfl
theorem dX3_keepsRows_0 : decode cX3_keepsRows 0 = .ok (.aload_n 0, 1) := dk_42 (dk_at dksX3_keepsRows_0 0 rfl rfl)
theorem dX3_keepsRows_1 : decode cX3_keepsRows 1 = .ok (.aload_n 0, 1) := dk_42 (dk_at dksX3_keepsRows_0 1 rfl rfl)
theorem dX3_keepsRows_2 : decode cX3_keepsRows 2 = .ok (.getfield 321, 3) := dk_180 1 65 (dk_at dksX3_keepsRows_0 2 rfl rfl)
theorem dX3_keepsRows_5 : decode cX3_keepsRows 5 = .ok (.putfield 150, 3) := dk_181 0 150 (dk_at dksX3_keepsRows_0 5 rfl rfl)
theorem dX3_keepsRows_8 : decode cX3_keepsRows 8 = .ok (.aload_n 0, 1) := dk_42 (dk_at dksX3_keepsRows_0 8 rfl rfl)
theorem dX3_keepsRows_9 : decode cX3_keepsRows 9 = .ok (.aload_n 0, 1) := dk_42 (dk_at dksX3_keepsRows_0 9 rfl rfl)
theorem dX3_keepsRows_10 : decode cX3_keepsRows 10 = .ok (.getfield 159, 3) := dk_180 0 159 (dk_at dksX3_keepsRows_0 10 rfl rfl)
theorem dX3_keepsRows_13 : decode cX3_keepsRows 13 = .ok (.putfield 379, 3) := dk_181 1 123 (dk_at dksX3_keepsRows_0 13 rfl rfl)
theorem dX3_keepsRows_16 : decode cX3_keepsRows 16 = .ok (.aload_n 0, 1) := dk_42 (dk_at dksX3_keepsRows_0 16 rfl rfl)
theorem dX3_keepsRows_17 : decode cX3_keepsRows 17 = .ok (.aload_n 0, 1) := dk_42 (dk_at dksX3_keepsRows_0 17 rfl rfl)
theorem dX3_keepsRows_18 : decode cX3_keepsRows 18 = .ok (.getfield 166, 3) := dk_180 0 166 (dk_at dksX3_keepsRows_0 18 rfl rfl)
theorem dX3_keepsRows_21 : decode cX3_keepsRows 21 = .ok (.putfield 382, 3) := dk_181 1 126 (dk_at dksX3_keepsRows_0 21 rfl rfl)
theorem dX3_keepsRows_24 : decode cX3_keepsRows 24 = .ok (.aload_n 0, 1) := dk_42 (dk_at dksX3_keepsRows_1 0 rfl rfl)
theorem dX3_keepsRows_25 : decode cX3_keepsRows 25 = .ok (.aload_n 0, 1) := dk_42 (dk_at dksX3_keepsRows_1 1 rfl rfl)
theorem dX3_keepsRows_26 : decode cX3_keepsRows 26 = .ok (.getfield 169, 3) := dk_180 0 169 (dk_at dksX3_keepsRows_1 2 rfl rfl)
theorem dX3_keepsRows_29 : decode cX3_keepsRows 29 = .ok (.putfield 385, 3) := dk_181 1 129 (dk_at dksX3_keepsRows_1 5 rfl rfl)
theorem dX3_keepsRows_32 : decode cX3_keepsRows 32 = .ok (.iconst 0, 1) := dk_3 (dk_at dksX3_keepsRows_1 8 rfl rfl)
theorem dX3_keepsRows_33 : decode cX3_keepsRows 33 = .ok (.istore_n 1, 1) := dk_60 (dk_at dksX3_keepsRows_1 9 rfl rfl)
theorem dX3_keepsRows_34 : decode cX3_keepsRows 34 = .ok (.iload_n 1, 1) := dk_27 (dk_at dksX3_keepsRows_1 10 rfl rfl)
theorem dX3_keepsRows_35 : decode cX3_keepsRows 35 = .ok (.aload_n 0, 1) := dk_42 (dk_at dksX3_keepsRows_1 11 rfl rfl)
theorem dX3_keepsRows_36 : decode cX3_keepsRows 36 = .ok (.getfield 321, 3) := dk_180 1 65 (dk_at dksX3_keepsRows_1 12 rfl rfl)
theorem dX3_keepsRows_39 : decode cX3_keepsRows 39 = .ok (.if_icmp .ge 93, 3) := dk_162 0 93 (dk_at dksX3_keepsRows_1 15 rfl rfl)
theorem dX3_keepsRows_42 : decode cX3_keepsRows 42 = .ok (.aload_n 0, 1) := dk_42 (dk_at dksX3_keepsRows_1 18 rfl rfl)
theorem dX3_keepsRows_43 : decode cX3_keepsRows 43 = .ok (.getfield 88, 3) := dk_180 0 88 (dk_at dksX3_keepsRows_1 19 rfl rfl)
theorem dX3_keepsRows_46 : decode cX3_keepsRows 46 = .ok (.iload_n 1, 1) := dk_27 (dk_at dksX3_keepsRows_1 22 rfl rfl)
theorem dX3_keepsRows_47 : decode cX3_keepsRows 47 = .ok (.aload_n 0, 1) := dk_42 (dk_at dksX3_keepsRows_1 23 rfl rfl)
theorem dX3_keepsRows_48 : decode cX3_keepsRows 48 = .ok (.getfield 64, 3) := dk_180 0 64 (dk_at dksX3_keepsRows_2 0 rfl rfl)
theorem dX3_keepsRows_51 : decode cX3_keepsRows 51 = .ok (.iload_n 1, 1) := dk_27 (dk_at dksX3_keepsRows_2 3 rfl rfl)
theorem dX3_keepsRows_52 : decode cX3_keepsRows 52 = .ok (.iaload, 1) := dk_46 (dk_at dksX3_keepsRows_2 4 rfl rfl)
theorem dX3_keepsRows_53 : decode cX3_keepsRows 53 = .ok (.iastore, 1) := dk_79 (dk_at dksX3_keepsRows_2 5 rfl rfl)
theorem dX3_keepsRows_54 : decode cX3_keepsRows 54 = .ok (.aload_n 0, 1) := dk_42 (dk_at dksX3_keepsRows_2 6 rfl rfl)
theorem dX3_keepsRows_55 : decode cX3_keepsRows 55 = .ok (.getfield 91, 3) := dk_180 0 91 (dk_at dksX3_keepsRows_2 7 rfl rfl)
theorem dX3_keepsRows_58 : decode cX3_keepsRows 58 = .ok (.iload_n 1, 1) := dk_27 (dk_at dksX3_keepsRows_2 10 rfl rfl)
theorem dX3_keepsRows_59 : decode cX3_keepsRows 59 = .ok (.aload_n 0, 1) := dk_42 (dk_at dksX3_keepsRows_2 11 rfl rfl)
theorem dX3_keepsRows_60 : decode cX3_keepsRows 60 = .ok (.getfield 67, 3) := dk_180 0 67 (dk_at dksX3_keepsRows_2 12 rfl rfl)
theorem dX3_keepsRows_63 : decode cX3_keepsRows 63 = .ok (.iload_n 1, 1) := dk_27 (dk_at dksX3_keepsRows_2 15 rfl rfl)
theorem dX3_keepsRows_64 : decode cX3_keepsRows 64 = .ok (.iaload, 1) := dk_46 (dk_at dksX3_keepsRows_2 16 rfl rfl)
theorem dX3_keepsRows_65 : decode cX3_keepsRows 65 = .ok (.iastore, 1) := dk_79 (dk_at dksX3_keepsRows_2 17 rfl rfl)
theorem dX3_keepsRows_66 : decode cX3_keepsRows 66 = .ok (.aload_n 0, 1) := dk_42 (dk_at dksX3_keepsRows_2 18 rfl rfl)
theorem dX3_keepsRows_67 : decode cX3_keepsRows 67 = .ok (.getfield 94, 3) := dk_180 0 94 (dk_at dksX3_keepsRows_2 19 rfl rfl)
theorem dX3_keepsRows_70 : decode cX3_keepsRows 70 = .ok (.iload_n 1, 1) := dk_27 (dk_at dksX3_keepsRows_2 22 rfl rfl)
theorem dX3_keepsRows_71 : decode cX3_keepsRows 71 = .ok (.aload_n 0, 1) := dk_42 (dk_at dksX3_keepsRows_2 23 rfl rfl)
theorem dX3_keepsRows_72 : decode cX3_keepsRows 72 = .ok (.getfield 70, 3) := dk_180 0 70 (dk_at dksX3_keepsRows_3 0 rfl rfl)
theorem dX3_keepsRows_75 : decode cX3_keepsRows 75 = .ok (.iload_n 1, 1) := dk_27 (dk_at dksX3_keepsRows_3 3 rfl rfl)
theorem dX3_keepsRows_76 : decode cX3_keepsRows 76 = .ok (.iaload, 1) := dk_46 (dk_at dksX3_keepsRows_3 4 rfl rfl)
theorem dX3_keepsRows_77 : decode cX3_keepsRows 77 = .ok (.iastore, 1) := dk_79 (dk_at dksX3_keepsRows_3 5 rfl rfl)
theorem dX3_keepsRows_78 : decode cX3_keepsRows 78 = .ok (.aload_n 0, 1) := dk_42 (dk_at dksX3_keepsRows_3 6 rfl rfl)
theorem dX3_keepsRows_79 : decode cX3_keepsRows 79 = .ok (.getfield 97, 3) := dk_180 0 97 (dk_at dksX3_keepsRows_3 7 rfl rfl)
theorem dX3_keepsRows_82 : decode cX3_keepsRows 82 = .ok (.iload_n 1, 1) := dk_27 (dk_at dksX3_keepsRows_3 10 rfl rfl)
theorem dX3_keepsRows_83 : decode cX3_keepsRows 83 = .ok (.aload_n 0, 1) := dk_42 (dk_at dksX3_keepsRows_3 11 rfl rfl)
theorem dX3_keepsRows_84 : decode cX3_keepsRows 84 = .ok (.getfield 73, 3) := dk_180 0 73 (dk_at dksX3_keepsRows_3 12 rfl rfl)
theorem dX3_keepsRows_87 : decode cX3_keepsRows 87 = .ok (.iload_n 1, 1) := dk_27 (dk_at dksX3_keepsRows_3 15 rfl rfl)
theorem dX3_keepsRows_88 : decode cX3_keepsRows 88 = .ok (.iaload, 1) := dk_46 (dk_at dksX3_keepsRows_3 16 rfl rfl)
theorem dX3_keepsRows_89 : decode cX3_keepsRows 89 = .ok (.iastore, 1) := dk_79 (dk_at dksX3_keepsRows_3 17 rfl rfl)
theorem dX3_keepsRows_90 : decode cX3_keepsRows 90 = .ok (.aload_n 0, 1) := dk_42 (dk_at dksX3_keepsRows_3 18 rfl rfl)
theorem dX3_keepsRows_91 : decode cX3_keepsRows 91 = .ok (.getfield 100, 3) := dk_180 0 100 (dk_at dksX3_keepsRows_3 19 rfl rfl)
theorem dX3_keepsRows_94 : decode cX3_keepsRows 94 = .ok (.iload_n 1, 1) := dk_27 (dk_at dksX3_keepsRows_3 22 rfl rfl)
theorem dX3_keepsRows_95 : decode cX3_keepsRows 95 = .ok (.aload_n 0, 1) := dk_42 (dk_at dksX3_keepsRows_3 23 rfl rfl)
theorem dX3_keepsRows_96 : decode cX3_keepsRows 96 = .ok (.getfield 76, 3) := dk_180 0 76 (dk_at dksX3_keepsRows_4 0 rfl rfl)
theorem dX3_keepsRows_99 : decode cX3_keepsRows 99 = .ok (.iload_n 1, 1) := dk_27 (dk_at dksX3_keepsRows_4 3 rfl rfl)
theorem dX3_keepsRows_100 : decode cX3_keepsRows 100 = .ok (.iaload, 1) := dk_46 (dk_at dksX3_keepsRows_4 4 rfl rfl)
theorem dX3_keepsRows_101 : decode cX3_keepsRows 101 = .ok (.iastore, 1) := dk_79 (dk_at dksX3_keepsRows_4 5 rfl rfl)
theorem dX3_keepsRows_102 : decode cX3_keepsRows 102 = .ok (.aload_n 0, 1) := dk_42 (dk_at dksX3_keepsRows_4 6 rfl rfl)
theorem dX3_keepsRows_103 : decode cX3_keepsRows 103 = .ok (.getfield 103, 3) := dk_180 0 103 (dk_at dksX3_keepsRows_4 7 rfl rfl)
theorem dX3_keepsRows_106 : decode cX3_keepsRows 106 = .ok (.iload_n 1, 1) := dk_27 (dk_at dksX3_keepsRows_4 10 rfl rfl)
theorem dX3_keepsRows_107 : decode cX3_keepsRows 107 = .ok (.aload_n 0, 1) := dk_42 (dk_at dksX3_keepsRows_4 11 rfl rfl)
theorem dX3_keepsRows_108 : decode cX3_keepsRows 108 = .ok (.getfield 79, 3) := dk_180 0 79 (dk_at dksX3_keepsRows_4 12 rfl rfl)
theorem dX3_keepsRows_111 : decode cX3_keepsRows 111 = .ok (.iload_n 1, 1) := dk_27 (dk_at dksX3_keepsRows_4 15 rfl rfl)
theorem dX3_keepsRows_112 : decode cX3_keepsRows 112 = .ok (.iaload, 1) := dk_46 (dk_at dksX3_keepsRows_4 16 rfl rfl)
theorem dX3_keepsRows_113 : decode cX3_keepsRows 113 = .ok (.iastore, 1) := dk_79 (dk_at dksX3_keepsRows_4 17 rfl rfl)
theorem dX3_keepsRows_114 : decode cX3_keepsRows 114 = .ok (.aload_n 0, 1) := dk_42 (dk_at dksX3_keepsRows_4 18 rfl rfl)
theorem dX3_keepsRows_115 : decode cX3_keepsRows 115 = .ok (.getfield 106, 3) := dk_180 0 106 (dk_at dksX3_keepsRows_4 19 rfl rfl)
theorem dX3_keepsRows_118 : decode cX3_keepsRows 118 = .ok (.iload_n 1, 1) := dk_27 (dk_at dksX3_keepsRows_4 22 rfl rfl)
theorem dX3_keepsRows_119 : decode cX3_keepsRows 119 = .ok (.aload_n 0, 1) := dk_42 (dk_at dksX3_keepsRows_4 23 rfl rfl)
theorem dX3_keepsRows_120 : decode cX3_keepsRows 120 = .ok (.getfield 82, 3) := dk_180 0 82 (dk_at dksX3_keepsRows_5 0 rfl rfl)
theorem dX3_keepsRows_123 : decode cX3_keepsRows 123 = .ok (.iload_n 1, 1) := dk_27 (dk_at dksX3_keepsRows_5 3 rfl rfl)
theorem dX3_keepsRows_124 : decode cX3_keepsRows 124 = .ok (.iaload, 1) := dk_46 (dk_at dksX3_keepsRows_5 4 rfl rfl)
theorem dX3_keepsRows_125 : decode cX3_keepsRows 125 = .ok (.iastore, 1) := dk_79 (dk_at dksX3_keepsRows_5 5 rfl rfl)
theorem dX3_keepsRows_126 : decode cX3_keepsRows 126 = .ok (.iinc 1 1, 3) := dk_132 1 1 (dk_at dksX3_keepsRows_5 6 rfl rfl)
theorem dX3_keepsRows_129 : decode cX3_keepsRows 129 = .ok (.goto (-95), 3) := dk_167 255 161 (dk_at dksX3_keepsRows_5 9 rfl rfl)
theorem dX3_keepsRows_132 : decode cX3_keepsRows 132 = .ok (.iconst 0, 1) := dk_3 (dk_at dksX3_keepsRows_5 12 rfl rfl)
theorem dX3_keepsRows_133 : decode cX3_keepsRows 133 = .ok (.istore_n 1, 1) := dk_60 (dk_at dksX3_keepsRows_5 13 rfl rfl)
theorem dX3_keepsRows_134 : decode cX3_keepsRows 134 = .ok (.iload_n 1, 1) := dk_27 (dk_at dksX3_keepsRows_5 14 rfl rfl)
theorem dX3_keepsRows_135 : decode cX3_keepsRows 135 = .ok (.aload_n 0, 1) := dk_42 (dk_at dksX3_keepsRows_5 15 rfl rfl)
theorem dX3_keepsRows_136 : decode cX3_keepsRows 136 = .ok (.getfield 166, 3) := dk_180 0 166 (dk_at dksX3_keepsRows_5 16 rfl rfl)
theorem dX3_keepsRows_139 : decode cX3_keepsRows 139 = .ok (.if_icmp .ge 32, 3) := dk_162 0 32 (dk_at dksX3_keepsRows_5 19 rfl rfl)
theorem dX3_keepsRows_142 : decode cX3_keepsRows 142 = .ok (.aload_n 0, 1) := dk_42 (dk_at dksX3_keepsRows_5 22 rfl rfl)
theorem dX3_keepsRows_143 : decode cX3_keepsRows 143 = .ok (.getfield 109, 3) := dk_180 0 109 (dk_at dksX3_keepsRows_6 0 rfl rfl)
theorem dX3_keepsRows_146 : decode cX3_keepsRows 146 = .ok (.iload_n 1, 1) := dk_27 (dk_at dksX3_keepsRows_6 3 rfl rfl)
theorem dX3_keepsRows_147 : decode cX3_keepsRows 147 = .ok (.aload_n 0, 1) := dk_42 (dk_at dksX3_keepsRows_6 4 rfl rfl)
theorem dX3_keepsRows_148 : decode cX3_keepsRows 148 = .ok (.getfield 58, 3) := dk_180 0 58 (dk_at dksX3_keepsRows_6 5 rfl rfl)
theorem dX3_keepsRows_151 : decode cX3_keepsRows 151 = .ok (.iload_n 1, 1) := dk_27 (dk_at dksX3_keepsRows_6 8 rfl rfl)
theorem dX3_keepsRows_152 : decode cX3_keepsRows 152 = .ok (.iaload, 1) := dk_46 (dk_at dksX3_keepsRows_6 9 rfl rfl)
theorem dX3_keepsRows_153 : decode cX3_keepsRows 153 = .ok (.iastore, 1) := dk_79 (dk_at dksX3_keepsRows_6 10 rfl rfl)
theorem dX3_keepsRows_154 : decode cX3_keepsRows 154 = .ok (.aload_n 0, 1) := dk_42 (dk_at dksX3_keepsRows_6 11 rfl rfl)
theorem dX3_keepsRows_155 : decode cX3_keepsRows 155 = .ok (.getfield 112, 3) := dk_180 0 112 (dk_at dksX3_keepsRows_6 12 rfl rfl)
theorem dX3_keepsRows_158 : decode cX3_keepsRows 158 = .ok (.iload_n 1, 1) := dk_27 (dk_at dksX3_keepsRows_6 15 rfl rfl)
theorem dX3_keepsRows_159 : decode cX3_keepsRows 159 = .ok (.aload_n 0, 1) := dk_42 (dk_at dksX3_keepsRows_6 16 rfl rfl)
theorem dX3_keepsRows_160 : decode cX3_keepsRows 160 = .ok (.iload_n 1, 1) := dk_27 (dk_at dksX3_keepsRows_6 17 rfl rfl)
theorem dX3_keepsRows_161 : decode cX3_keepsRows 161 = .ok (.invokevirtual 355, 3) := dk_182 1 99 (dk_at dksX3_keepsRows_6 18 rfl rfl)
theorem dX3_keepsRows_164 : decode cX3_keepsRows 164 = .ok (.iastore, 1) := dk_79 (dk_at dksX3_keepsRows_6 21 rfl rfl)
theorem dX3_keepsRows_165 : decode cX3_keepsRows 165 = .ok (.iinc 1 1, 3) := dk_132 1 1 (dk_at dksX3_keepsRows_7 0 rfl rfl)
theorem dX3_keepsRows_168 : decode cX3_keepsRows 168 = .ok (.goto (-34), 3) := dk_167 255 222 (dk_at dksX3_keepsRows_7 3 rfl rfl)
theorem dX3_keepsRows_171 : decode cX3_keepsRows 171 = .ok (.iconst 0, 1) := dk_3 (dk_at dksX3_keepsRows_7 6 rfl rfl)
theorem dX3_keepsRows_172 : decode cX3_keepsRows 172 = .ok (.istore_n 1, 1) := dk_60 (dk_at dksX3_keepsRows_7 7 rfl rfl)
theorem dX3_keepsRows_173 : decode cX3_keepsRows 173 = .ok (.iload_n 1, 1) := dk_27 (dk_at dksX3_keepsRows_7 8 rfl rfl)
theorem dX3_keepsRows_174 : decode cX3_keepsRows 174 = .ok (.aload_n 0, 1) := dk_42 (dk_at dksX3_keepsRows_7 9 rfl rfl)
theorem dX3_keepsRows_175 : decode cX3_keepsRows 175 = .ok (.getfield 169, 3) := dk_180 0 169 (dk_at dksX3_keepsRows_7 10 rfl rfl)
theorem dX3_keepsRows_178 : decode cX3_keepsRows 178 = .ok (.if_icmp .ge 33, 3) := dk_162 0 33 (dk_at dksX3_keepsRows_7 13 rfl rfl)
theorem dX3_keepsRows_181 : decode cX3_keepsRows 181 = .ok (.aload_n 0, 1) := dk_42 (dk_at dksX3_keepsRows_7 16 rfl rfl)
theorem dX3_keepsRows_182 : decode cX3_keepsRows 182 = .ok (.getfield 115, 3) := dk_180 0 115 (dk_at dksX3_keepsRows_7 17 rfl rfl)
theorem dX3_keepsRows_185 : decode cX3_keepsRows 185 = .ok (.iload_n 1, 1) := dk_27 (dk_at dksX3_keepsRows_7 20 rfl rfl)
theorem dX3_keepsRows_186 : decode cX3_keepsRows 186 = .ok (.aload_n 0, 1) := dk_42 (dk_at dksX3_keepsRows_7 21 rfl rfl)
theorem dX3_keepsRows_187 : decode cX3_keepsRows 187 = .ok (.getfield 52, 3) := dk_180 0 52 (dk_at dksX3_keepsRows_8 0 rfl rfl)
theorem dX3_keepsRows_190 : decode cX3_keepsRows 190 = .ok (.iload_n 1, 1) := dk_27 (dk_at dksX3_keepsRows_8 3 rfl rfl)
theorem dX3_keepsRows_191 : decode cX3_keepsRows 191 = .ok (.iaload, 1) := dk_46 (dk_at dksX3_keepsRows_8 4 rfl rfl)
theorem dX3_keepsRows_192 : decode cX3_keepsRows 192 = .ok (.iastore, 1) := dk_79 (dk_at dksX3_keepsRows_8 5 rfl rfl)
theorem dX3_keepsRows_193 : decode cX3_keepsRows 193 = .ok (.aload_n 0, 1) := dk_42 (dk_at dksX3_keepsRows_8 6 rfl rfl)
theorem dX3_keepsRows_194 : decode cX3_keepsRows 194 = .ok (.getfield 118, 3) := dk_180 0 118 (dk_at dksX3_keepsRows_8 7 rfl rfl)
theorem dX3_keepsRows_197 : decode cX3_keepsRows 197 = .ok (.iload_n 1, 1) := dk_27 (dk_at dksX3_keepsRows_8 10 rfl rfl)
theorem dX3_keepsRows_198 : decode cX3_keepsRows 198 = .ok (.aload_n 0, 1) := dk_42 (dk_at dksX3_keepsRows_8 11 rfl rfl)
theorem dX3_keepsRows_199 : decode cX3_keepsRows 199 = .ok (.getfield 55, 3) := dk_180 0 55 (dk_at dksX3_keepsRows_8 12 rfl rfl)
theorem dX3_keepsRows_202 : decode cX3_keepsRows 202 = .ok (.iload_n 1, 1) := dk_27 (dk_at dksX3_keepsRows_8 15 rfl rfl)
theorem dX3_keepsRows_203 : decode cX3_keepsRows 203 = .ok (.iaload, 1) := dk_46 (dk_at dksX3_keepsRows_8 16 rfl rfl)
theorem dX3_keepsRows_204 : decode cX3_keepsRows 204 = .ok (.iastore, 1) := dk_79 (dk_at dksX3_keepsRows_8 17 rfl rfl)
theorem dX3_keepsRows_205 : decode cX3_keepsRows 205 = .ok (.iinc 1 1, 3) := dk_132 1 1 (dk_at dksX3_keepsRows_8 18 rfl rfl)
theorem dX3_keepsRows_208 : decode cX3_keepsRows 208 = .ok (.goto (-35), 3) := dk_167 255 221 (dk_at dksX3_keepsRows_8 21 rfl rfl)
theorem dX3_keepsRows_211 : decode cX3_keepsRows 211 = .ok (.iconst 0, 1) := dk_3 (dk_at dksX3_keepsRows_9 0 rfl rfl)
theorem dX3_keepsRows_212 : decode cX3_keepsRows 212 = .ok (.istore_n 1, 1) := dk_60 (dk_at dksX3_keepsRows_9 1 rfl rfl)
theorem dX3_keepsRows_213 : decode cX3_keepsRows 213 = .ok (.iload_n 1, 1) := dk_27 (dk_at dksX3_keepsRows_9 2 rfl rfl)
theorem dX3_keepsRows_214 : decode cX3_keepsRows 214 = .ok (.aload_n 0, 1) := dk_42 (dk_at dksX3_keepsRows_9 3 rfl rfl)
theorem dX3_keepsRows_215 : decode cX3_keepsRows 215 = .ok (.getfield 159, 3) := dk_180 0 159 (dk_at dksX3_keepsRows_9 4 rfl rfl)
theorem dX3_keepsRows_218 : decode cX3_keepsRows 218 = .ok (.if_icmp .ge 20, 3) := dk_162 0 20 (dk_at dksX3_keepsRows_9 7 rfl rfl)
theorem dX3_keepsRows_221 : decode cX3_keepsRows 221 = .ok (.aload_n 0, 1) := dk_42 (dk_at dksX3_keepsRows_9 10 rfl rfl)
theorem dX3_keepsRows_222 : decode cX3_keepsRows 222 = .ok (.getfield 121, 3) := dk_180 0 121 (dk_at dksX3_keepsRows_9 11 rfl rfl)
theorem dX3_keepsRows_225 : decode cX3_keepsRows 225 = .ok (.iload_n 1, 1) := dk_27 (dk_at dksX3_keepsRows_9 14 rfl rfl)
theorem dX3_keepsRows_226 : decode cX3_keepsRows 226 = .ok (.aload_n 0, 1) := dk_42 (dk_at dksX3_keepsRows_9 15 rfl rfl)
theorem dX3_keepsRows_227 : decode cX3_keepsRows 227 = .ok (.iload_n 1, 1) := dk_27 (dk_at dksX3_keepsRows_9 16 rfl rfl)
theorem dX3_keepsRows_228 : decode cX3_keepsRows 228 = .ok (.invokevirtual 370, 3) := dk_182 1 114 (dk_at dksX3_keepsRows_9 17 rfl rfl)
theorem dX3_keepsRows_231 : decode cX3_keepsRows 231 = .ok (.iastore, 1) := dk_79 (dk_at dksX3_keepsRows_9 20 rfl rfl)
theorem dX3_keepsRows_232 : decode cX3_keepsRows 232 = .ok (.iinc 1 1, 3) := dk_132 1 1 (dk_at dksX3_keepsRows_9 21 rfl rfl)
theorem dX3_keepsRows_235 : decode cX3_keepsRows 235 = .ok (.goto (-22), 3) := dk_167 255 234 (dk_at dksX3_keepsRows_10 0 rfl rfl)
theorem dX3_keepsRows_238 : decode cX3_keepsRows 238 = .ok (.return_, 1) := dk_177 (dk_at dksX3_keepsRows_10 3 rfl rfl)
abbrev cX3_comesTo : ByteArray := prog_34_method_53_code
def yX3_comesTo : MethodName := ⟨RX3, "comesTo", "(I)I"⟩
def dkwX3_comesTo_2 : List UInt8 := [167, 0, 4, 3, 96, 61, 132, 3, 1, 167, 255, 214, 28, 172]
abbrev dktX3_comesTo_2 : List UInt8 := dkwX3_comesTo_2 ++ []
def dkwX3_comesTo_1 : List UInt8 := [180, 0, 25, 29, 46, 27, 160, 0, 20, 42, 29, 182, 1, 40, 153, 0, 12, 42, 180, 0, 28, 29, 46]
abbrev dktX3_comesTo_1 : List UInt8 := dkwX3_comesTo_1 ++ dktX3_comesTo_2
def dkwX3_comesTo_0 : List UInt8 := [42, 180, 0, 9, 16, 30, 27, 96, 46, 61, 3, 62, 29, 42, 180, 0, 169, 162, 0, 40, 28, 42]
abbrev dktX3_comesTo_0 : List UInt8 := dkwX3_comesTo_0 ++ dktX3_comesTo_1
theorem dksX3_comesTo_0 : cX3_comesTo.data.toList.drop 0 = dktX3_comesTo_0 := by decide +kernel
theorem dksX3_comesTo_1 : cX3_comesTo.data.toList.drop 22 = dktX3_comesTo_1 := dk_seg dksX3_comesTo_0 22 rfl rfl
theorem dksX3_comesTo_2 : cX3_comesTo.data.toList.drop 45 = dktX3_comesTo_2 := dk_seg dksX3_comesTo_1 23 rfl rfl
theorem dX3_comesTo_0 : decode cX3_comesTo 0 = .ok (.aload_n 0, 1) := dk_42 (dk_at dksX3_comesTo_0 0 rfl rfl)
theorem dX3_comesTo_1 : decode cX3_comesTo 1 = .ok (.getfield 9, 3) := dk_180 0 9 (dk_at dksX3_comesTo_0 1 rfl rfl)
theorem dX3_comesTo_4 : decode cX3_comesTo 4 = .ok (.bipush 30, 2) := dk_16 30 (dk_at dksX3_comesTo_0 4 rfl rfl)
theorem dX3_comesTo_6 : decode cX3_comesTo 6 = .ok (.iload_n 1, 1) := dk_27 (dk_at dksX3_comesTo_0 6 rfl rfl)
theorem dX3_comesTo_7 : decode cX3_comesTo 7 = .ok (.iadd, 1) := dk_96 (dk_at dksX3_comesTo_0 7 rfl rfl)
theorem dX3_comesTo_8 : decode cX3_comesTo 8 = .ok (.iaload, 1) := dk_46 (dk_at dksX3_comesTo_0 8 rfl rfl)
theorem dX3_comesTo_9 : decode cX3_comesTo 9 = .ok (.istore_n 2, 1) := dk_61 (dk_at dksX3_comesTo_0 9 rfl rfl)
theorem dX3_comesTo_10 : decode cX3_comesTo 10 = .ok (.iconst 0, 1) := dk_3 (dk_at dksX3_comesTo_0 10 rfl rfl)
theorem dX3_comesTo_11 : decode cX3_comesTo 11 = .ok (.istore_n 3, 1) := dk_62 (dk_at dksX3_comesTo_0 11 rfl rfl)
theorem dX3_comesTo_12 : decode cX3_comesTo 12 = .ok (.iload_n 3, 1) := dk_29 (dk_at dksX3_comesTo_0 12 rfl rfl)
theorem dX3_comesTo_13 : decode cX3_comesTo 13 = .ok (.aload_n 0, 1) := dk_42 (dk_at dksX3_comesTo_0 13 rfl rfl)
theorem dX3_comesTo_14 : decode cX3_comesTo 14 = .ok (.getfield 169, 3) := dk_180 0 169 (dk_at dksX3_comesTo_0 14 rfl rfl)
theorem dX3_comesTo_17 : decode cX3_comesTo 17 = .ok (.if_icmp .ge 40, 3) := dk_162 0 40 (dk_at dksX3_comesTo_0 17 rfl rfl)
theorem dX3_comesTo_20 : decode cX3_comesTo 20 = .ok (.iload_n 2, 1) := dk_28 (dk_at dksX3_comesTo_0 20 rfl rfl)
theorem dX3_comesTo_21 : decode cX3_comesTo 21 = .ok (.aload_n 0, 1) := dk_42 (dk_at dksX3_comesTo_0 21 rfl rfl)
theorem dX3_comesTo_22 : decode cX3_comesTo 22 = .ok (.getfield 25, 3) := dk_180 0 25 (dk_at dksX3_comesTo_1 0 rfl rfl)
theorem dX3_comesTo_25 : decode cX3_comesTo 25 = .ok (.iload_n 3, 1) := dk_29 (dk_at dksX3_comesTo_1 3 rfl rfl)
theorem dX3_comesTo_26 : decode cX3_comesTo 26 = .ok (.iaload, 1) := dk_46 (dk_at dksX3_comesTo_1 4 rfl rfl)
theorem dX3_comesTo_27 : decode cX3_comesTo 27 = .ok (.iload_n 1, 1) := dk_27 (dk_at dksX3_comesTo_1 5 rfl rfl)
theorem dX3_comesTo_28 : decode cX3_comesTo 28 = .ok (.if_icmp .ne 20, 3) := dk_160 0 20 (dk_at dksX3_comesTo_1 6 rfl rfl)
theorem dX3_comesTo_31 : decode cX3_comesTo 31 = .ok (.aload_n 0, 1) := dk_42 (dk_at dksX3_comesTo_1 9 rfl rfl)
theorem dX3_comesTo_32 : decode cX3_comesTo 32 = .ok (.iload_n 3, 1) := dk_29 (dk_at dksX3_comesTo_1 10 rfl rfl)
theorem dX3_comesTo_33 : decode cX3_comesTo 33 = .ok (.invokevirtual 296, 3) := dk_182 1 40 (dk_at dksX3_comesTo_1 11 rfl rfl)
theorem dX3_comesTo_36 : decode cX3_comesTo 36 = .ok (.ifCond .eq 12, 3) := dk_153 0 12 (dk_at dksX3_comesTo_1 14 rfl rfl)
theorem dX3_comesTo_39 : decode cX3_comesTo 39 = .ok (.aload_n 0, 1) := dk_42 (dk_at dksX3_comesTo_1 17 rfl rfl)
theorem dX3_comesTo_40 : decode cX3_comesTo 40 = .ok (.getfield 28, 3) := dk_180 0 28 (dk_at dksX3_comesTo_1 18 rfl rfl)
theorem dX3_comesTo_43 : decode cX3_comesTo 43 = .ok (.iload_n 3, 1) := dk_29 (dk_at dksX3_comesTo_1 21 rfl rfl)
theorem dX3_comesTo_44 : decode cX3_comesTo 44 = .ok (.iaload, 1) := dk_46 (dk_at dksX3_comesTo_1 22 rfl rfl)
theorem dX3_comesTo_45 : decode cX3_comesTo 45 = .ok (.goto 4, 3) := dk_167 0 4 (dk_at dksX3_comesTo_2 0 rfl rfl)
theorem dX3_comesTo_48 : decode cX3_comesTo 48 = .ok (.iconst 0, 1) := dk_3 (dk_at dksX3_comesTo_2 3 rfl rfl)
theorem dX3_comesTo_49 : decode cX3_comesTo 49 = .ok (.iadd, 1) := dk_96 (dk_at dksX3_comesTo_2 4 rfl rfl)
theorem dX3_comesTo_50 : decode cX3_comesTo 50 = .ok (.istore_n 2, 1) := dk_61 (dk_at dksX3_comesTo_2 5 rfl rfl)
theorem dX3_comesTo_51 : decode cX3_comesTo 51 = .ok (.iinc 3 1, 3) := dk_132 3 1 (dk_at dksX3_comesTo_2 6 rfl rfl)
theorem dX3_comesTo_54 : decode cX3_comesTo 54 = .ok (.goto (-42), 3) := dk_167 255 214 (dk_at dksX3_comesTo_2 9 rfl rfl)
theorem dX3_comesTo_57 : decode cX3_comesTo 57 = .ok (.iload_n 2, 1) := dk_28 (dk_at dksX3_comesTo_2 12 rfl rfl)
theorem dX3_comesTo_58 : decode cX3_comesTo 58 = .ok (.ireturn, 1) := dk_172 (dk_at dksX3_comesTo_2 13 rfl rfl)
abbrev cX3_thereFor : ByteArray := prog_34_method_59_code
def yX3_thereFor : MethodName := ⟨RX3, "thereFor", "(I)I"⟩
def dkwX3_thereFor_1 : List UInt8 := [16, 20, 27, 96, 46, 100, 167, 0, 4, 3, 172]
abbrev dktX3_thereFor_1 : List UInt8 := dkwX3_thereFor_1 ++ []
def dkwX3_thereFor_0 : List UInt8 := [42, 180, 1, 33, 42, 180, 0, 9, 16, 20, 27, 96, 46, 164, 0, 20, 42, 180, 1, 33, 42, 180, 0, 9]
abbrev dktX3_thereFor_0 : List UInt8 := dkwX3_thereFor_0 ++ dktX3_thereFor_1
theorem dksX3_thereFor_0 : cX3_thereFor.data.toList.drop 0 = dktX3_thereFor_0 := by decide +kernel
theorem dksX3_thereFor_1 : cX3_thereFor.data.toList.drop 24 = dktX3_thereFor_1 := dk_seg dksX3_thereFor_0 24 rfl rfl
theorem dX3_thereFor_0 : decode cX3_thereFor 0 = .ok (.aload_n 0, 1) := dk_42 (dk_at dksX3_thereFor_0 0 rfl rfl)
theorem dX3_thereFor_1 : decode cX3_thereFor 1 = .ok (.getfield 289, 3) := dk_180 1 33 (dk_at dksX3_thereFor_0 1 rfl rfl)
theorem dX3_thereFor_4 : decode cX3_thereFor 4 = .ok (.aload_n 0, 1) := dk_42 (dk_at dksX3_thereFor_0 4 rfl rfl)
theorem dX3_thereFor_5 : decode cX3_thereFor 5 = .ok (.getfield 9, 3) := dk_180 0 9 (dk_at dksX3_thereFor_0 5 rfl rfl)
theorem dX3_thereFor_8 : decode cX3_thereFor 8 = .ok (.bipush 20, 2) := dk_16 20 (dk_at dksX3_thereFor_0 8 rfl rfl)
theorem dX3_thereFor_10 : decode cX3_thereFor 10 = .ok (.iload_n 1, 1) := dk_27 (dk_at dksX3_thereFor_0 10 rfl rfl)
theorem dX3_thereFor_11 : decode cX3_thereFor 11 = .ok (.iadd, 1) := dk_96 (dk_at dksX3_thereFor_0 11 rfl rfl)
theorem dX3_thereFor_12 : decode cX3_thereFor 12 = .ok (.iaload, 1) := dk_46 (dk_at dksX3_thereFor_0 12 rfl rfl)
theorem dX3_thereFor_13 : decode cX3_thereFor 13 = .ok (.if_icmp .le 20, 3) := dk_164 0 20 (dk_at dksX3_thereFor_0 13 rfl rfl)
theorem dX3_thereFor_16 : decode cX3_thereFor 16 = .ok (.aload_n 0, 1) := dk_42 (dk_at dksX3_thereFor_0 16 rfl rfl)
theorem dX3_thereFor_17 : decode cX3_thereFor 17 = .ok (.getfield 289, 3) := dk_180 1 33 (dk_at dksX3_thereFor_0 17 rfl rfl)
theorem dX3_thereFor_20 : decode cX3_thereFor 20 = .ok (.aload_n 0, 1) := dk_42 (dk_at dksX3_thereFor_0 20 rfl rfl)
theorem dX3_thereFor_21 : decode cX3_thereFor 21 = .ok (.getfield 9, 3) := dk_180 0 9 (dk_at dksX3_thereFor_0 21 rfl rfl)
theorem dX3_thereFor_24 : decode cX3_thereFor 24 = .ok (.bipush 20, 2) := dk_16 20 (dk_at dksX3_thereFor_1 0 rfl rfl)
theorem dX3_thereFor_26 : decode cX3_thereFor 26 = .ok (.iload_n 1, 1) := dk_27 (dk_at dksX3_thereFor_1 2 rfl rfl)
theorem dX3_thereFor_27 : decode cX3_thereFor 27 = .ok (.iadd, 1) := dk_96 (dk_at dksX3_thereFor_1 3 rfl rfl)
theorem dX3_thereFor_28 : decode cX3_thereFor 28 = .ok (.iaload, 1) := dk_46 (dk_at dksX3_thereFor_1 4 rfl rfl)
theorem dX3_thereFor_29 : decode cX3_thereFor 29 = .ok (.isub, 1) := dk_100 (dk_at dksX3_thereFor_1 5 rfl rfl)
theorem dX3_thereFor_30 : decode cX3_thereFor 30 = .ok (.goto 4, 3) := dk_167 0 4 (dk_at dksX3_thereFor_1 6 rfl rfl)
theorem dX3_thereFor_33 : decode cX3_thereFor 33 = .ok (.iconst 0, 1) := dk_3 (dk_at dksX3_thereFor_1 9 rfl rfl)
theorem dX3_thereFor_34 : decode cX3_thereFor 34 = .ok (.ireturn, 1) := dk_172 (dk_at dksX3_thereFor_1 10 rfl rfl)
abbrev cX3_decided : ByteArray := prog_34_method_54_code
def yX3_decided : MethodName := ⟨RX3, "decided", "()I"⟩
def dkwX3_decided_1 : List UInt8 := [167, 0, 4, 3, 128, 60, 132, 2, 1, 167, 255, 227, 27, 172]
abbrev dktX3_decided_1 : List UInt8 := dkwX3_decided_1 ++ []
def dkwX3_decided_0 : List UInt8 := [3, 60, 3, 61, 28, 42, 180, 0, 166, 162, 0, 27, 27, 42, 28, 182, 1, 99, 158, 0, 9, 4, 28, 120]
abbrev dktX3_decided_0 : List UInt8 := dkwX3_decided_0 ++ dktX3_decided_1
theorem dksX3_decided_0 : cX3_decided.data.toList.drop 0 = dktX3_decided_0 := by decide +kernel
theorem dksX3_decided_1 : cX3_decided.data.toList.drop 24 = dktX3_decided_1 := dk_seg dksX3_decided_0 24 rfl rfl
theorem dX3_decided_0 : decode cX3_decided 0 = .ok (.iconst 0, 1) := dk_3 (dk_at dksX3_decided_0 0 rfl rfl)
theorem dX3_decided_1 : decode cX3_decided 1 = .ok (.istore_n 1, 1) := dk_60 (dk_at dksX3_decided_0 1 rfl rfl)
theorem dX3_decided_2 : decode cX3_decided 2 = .ok (.iconst 0, 1) := dk_3 (dk_at dksX3_decided_0 2 rfl rfl)
theorem dX3_decided_3 : decode cX3_decided 3 = .ok (.istore_n 2, 1) := dk_61 (dk_at dksX3_decided_0 3 rfl rfl)
theorem dX3_decided_4 : decode cX3_decided 4 = .ok (.iload_n 2, 1) := dk_28 (dk_at dksX3_decided_0 4 rfl rfl)
theorem dX3_decided_5 : decode cX3_decided 5 = .ok (.aload_n 0, 1) := dk_42 (dk_at dksX3_decided_0 5 rfl rfl)
theorem dX3_decided_6 : decode cX3_decided 6 = .ok (.getfield 166, 3) := dk_180 0 166 (dk_at dksX3_decided_0 6 rfl rfl)
theorem dX3_decided_9 : decode cX3_decided 9 = .ok (.if_icmp .ge 27, 3) := dk_162 0 27 (dk_at dksX3_decided_0 9 rfl rfl)
theorem dX3_decided_12 : decode cX3_decided 12 = .ok (.iload_n 1, 1) := dk_27 (dk_at dksX3_decided_0 12 rfl rfl)
theorem dX3_decided_13 : decode cX3_decided 13 = .ok (.aload_n 0, 1) := dk_42 (dk_at dksX3_decided_0 13 rfl rfl)
theorem dX3_decided_14 : decode cX3_decided 14 = .ok (.iload_n 2, 1) := dk_28 (dk_at dksX3_decided_0 14 rfl rfl)
theorem dX3_decided_15 : decode cX3_decided 15 = .ok (.invokevirtual 355, 3) := dk_182 1 99 (dk_at dksX3_decided_0 15 rfl rfl)
theorem dX3_decided_18 : decode cX3_decided 18 = .ok (.ifCond .le 9, 3) := dk_158 0 9 (dk_at dksX3_decided_0 18 rfl rfl)
theorem dX3_decided_21 : decode cX3_decided 21 = .ok (.iconst 1, 1) := dk_4 (dk_at dksX3_decided_0 21 rfl rfl)
theorem dX3_decided_22 : decode cX3_decided 22 = .ok (.iload_n 2, 1) := dk_28 (dk_at dksX3_decided_0 22 rfl rfl)
theorem dX3_decided_23 : decode cX3_decided 23 = .ok (.ishl, 1) := dk_120 (dk_at dksX3_decided_0 23 rfl rfl)
theorem dX3_decided_24 : decode cX3_decided 24 = .ok (.goto 4, 3) := dk_167 0 4 (dk_at dksX3_decided_1 0 rfl rfl)
theorem dX3_decided_27 : decode cX3_decided 27 = .ok (.iconst 0, 1) := dk_3 (dk_at dksX3_decided_1 3 rfl rfl)
theorem dX3_decided_28 : decode cX3_decided 28 = .ok (.ior, 1) := dk_128 (dk_at dksX3_decided_1 4 rfl rfl)
theorem dX3_decided_29 : decode cX3_decided 29 = .ok (.istore_n 1, 1) := dk_60 (dk_at dksX3_decided_1 5 rfl rfl)
theorem dX3_decided_30 : decode cX3_decided 30 = .ok (.iinc 2 1, 3) := dk_132 2 1 (dk_at dksX3_decided_1 6 rfl rfl)
theorem dX3_decided_33 : decode cX3_decided 33 = .ok (.goto (-29), 3) := dk_167 255 227 (dk_at dksX3_decided_1 9 rfl rfl)
theorem dX3_decided_36 : decode cX3_decided 36 = .ok (.iload_n 1, 1) := dk_27 (dk_at dksX3_decided_1 12 rfl rfl)
theorem dX3_decided_37 : decode cX3_decided 37 = .ok (.ireturn, 1) := dk_172 (dk_at dksX3_decided_1 13 rfl rfl)
abbrev cX3_heldBack : ByteArray := prog_34_method_61_code
def yX3_heldBack : MethodName := ⟨RX3, "heldBack", "()I"⟩
def dkwX3_heldBack_2 : List UInt8 := [4, 28, 120, 167, 0, 4, 3, 128, 60, 132, 3, 1, 167, 255, 210, 132, 2, 1, 167, 255, 194, 27, 172]
abbrev dktX3_heldBack_2 : List UInt8 := dkwX3_heldBack_2 ++ []
def dkwX3_heldBack_1 : List UInt8 := [28, 182, 1, 40, 154, 0, 26, 42, 29, 28, 182, 1, 36, 153, 0, 17, 42, 29, 182, 1, 43, 153, 0, 9]
abbrev dktX3_heldBack_1 : List UInt8 := dkwX3_heldBack_1 ++ dktX3_heldBack_2
def dkwX3_heldBack_0 : List UInt8 := [3, 60, 3, 61, 28, 42, 180, 0, 169, 162, 0, 60, 3, 62, 29, 42, 180, 0, 159, 162, 0, 44, 27, 42]
abbrev dktX3_heldBack_0 : List UInt8 := dkwX3_heldBack_0 ++ dktX3_heldBack_1
theorem dksX3_heldBack_0 : cX3_heldBack.data.toList.drop 0 = dktX3_heldBack_0 := by decide +kernel
theorem dksX3_heldBack_1 : cX3_heldBack.data.toList.drop 24 = dktX3_heldBack_1 := dk_seg dksX3_heldBack_0 24 rfl rfl
theorem dksX3_heldBack_2 : cX3_heldBack.data.toList.drop 48 = dktX3_heldBack_2 := dk_seg dksX3_heldBack_1 24 rfl rfl
theorem dX3_heldBack_0 : decode cX3_heldBack 0 = .ok (.iconst 0, 1) := dk_3 (dk_at dksX3_heldBack_0 0 rfl rfl)
theorem dX3_heldBack_1 : decode cX3_heldBack 1 = .ok (.istore_n 1, 1) := dk_60 (dk_at dksX3_heldBack_0 1 rfl rfl)
theorem dX3_heldBack_2 : decode cX3_heldBack 2 = .ok (.iconst 0, 1) := dk_3 (dk_at dksX3_heldBack_0 2 rfl rfl)
theorem dX3_heldBack_3 : decode cX3_heldBack 3 = .ok (.istore_n 2, 1) := dk_61 (dk_at dksX3_heldBack_0 3 rfl rfl)
theorem dX3_heldBack_4 : decode cX3_heldBack 4 = .ok (.iload_n 2, 1) := dk_28 (dk_at dksX3_heldBack_0 4 rfl rfl)
theorem dX3_heldBack_5 : decode cX3_heldBack 5 = .ok (.aload_n 0, 1) := dk_42 (dk_at dksX3_heldBack_0 5 rfl rfl)
theorem dX3_heldBack_6 : decode cX3_heldBack 6 = .ok (.getfield 169, 3) := dk_180 0 169 (dk_at dksX3_heldBack_0 6 rfl rfl)
theorem dX3_heldBack_9 : decode cX3_heldBack 9 = .ok (.if_icmp .ge 60, 3) := dk_162 0 60 (dk_at dksX3_heldBack_0 9 rfl rfl)
theorem dX3_heldBack_12 : decode cX3_heldBack 12 = .ok (.iconst 0, 1) := dk_3 (dk_at dksX3_heldBack_0 12 rfl rfl)
theorem dX3_heldBack_13 : decode cX3_heldBack 13 = .ok (.istore_n 3, 1) := dk_62 (dk_at dksX3_heldBack_0 13 rfl rfl)
theorem dX3_heldBack_14 : decode cX3_heldBack 14 = .ok (.iload_n 3, 1) := dk_29 (dk_at dksX3_heldBack_0 14 rfl rfl)
theorem dX3_heldBack_15 : decode cX3_heldBack 15 = .ok (.aload_n 0, 1) := dk_42 (dk_at dksX3_heldBack_0 15 rfl rfl)
theorem dX3_heldBack_16 : decode cX3_heldBack 16 = .ok (.getfield 159, 3) := dk_180 0 159 (dk_at dksX3_heldBack_0 16 rfl rfl)
theorem dX3_heldBack_19 : decode cX3_heldBack 19 = .ok (.if_icmp .ge 44, 3) := dk_162 0 44 (dk_at dksX3_heldBack_0 19 rfl rfl)
theorem dX3_heldBack_22 : decode cX3_heldBack 22 = .ok (.iload_n 1, 1) := dk_27 (dk_at dksX3_heldBack_0 22 rfl rfl)
theorem dX3_heldBack_23 : decode cX3_heldBack 23 = .ok (.aload_n 0, 1) := dk_42 (dk_at dksX3_heldBack_0 23 rfl rfl)
theorem dX3_heldBack_24 : decode cX3_heldBack 24 = .ok (.iload_n 2, 1) := dk_28 (dk_at dksX3_heldBack_1 0 rfl rfl)
theorem dX3_heldBack_25 : decode cX3_heldBack 25 = .ok (.invokevirtual 296, 3) := dk_182 1 40 (dk_at dksX3_heldBack_1 1 rfl rfl)
theorem dX3_heldBack_28 : decode cX3_heldBack 28 = .ok (.ifCond .ne 26, 3) := dk_154 0 26 (dk_at dksX3_heldBack_1 4 rfl rfl)
theorem dX3_heldBack_31 : decode cX3_heldBack 31 = .ok (.aload_n 0, 1) := dk_42 (dk_at dksX3_heldBack_1 7 rfl rfl)
theorem dX3_heldBack_32 : decode cX3_heldBack 32 = .ok (.iload_n 3, 1) := dk_29 (dk_at dksX3_heldBack_1 8 rfl rfl)
theorem dX3_heldBack_33 : decode cX3_heldBack 33 = .ok (.iload_n 2, 1) := dk_28 (dk_at dksX3_heldBack_1 9 rfl rfl)
theorem dX3_heldBack_34 : decode cX3_heldBack 34 = .ok (.invokevirtual 292, 3) := dk_182 1 36 (dk_at dksX3_heldBack_1 10 rfl rfl)
theorem dX3_heldBack_37 : decode cX3_heldBack 37 = .ok (.ifCond .eq 17, 3) := dk_153 0 17 (dk_at dksX3_heldBack_1 13 rfl rfl)
theorem dX3_heldBack_40 : decode cX3_heldBack 40 = .ok (.aload_n 0, 1) := dk_42 (dk_at dksX3_heldBack_1 16 rfl rfl)
theorem dX3_heldBack_41 : decode cX3_heldBack 41 = .ok (.iload_n 3, 1) := dk_29 (dk_at dksX3_heldBack_1 17 rfl rfl)
theorem dX3_heldBack_42 : decode cX3_heldBack 42 = .ok (.invokevirtual 299, 3) := dk_182 1 43 (dk_at dksX3_heldBack_1 18 rfl rfl)
theorem dX3_heldBack_45 : decode cX3_heldBack 45 = .ok (.ifCond .eq 9, 3) := dk_153 0 9 (dk_at dksX3_heldBack_1 21 rfl rfl)
theorem dX3_heldBack_48 : decode cX3_heldBack 48 = .ok (.iconst 1, 1) := dk_4 (dk_at dksX3_heldBack_2 0 rfl rfl)
theorem dX3_heldBack_49 : decode cX3_heldBack 49 = .ok (.iload_n 2, 1) := dk_28 (dk_at dksX3_heldBack_2 1 rfl rfl)
theorem dX3_heldBack_50 : decode cX3_heldBack 50 = .ok (.ishl, 1) := dk_120 (dk_at dksX3_heldBack_2 2 rfl rfl)
theorem dX3_heldBack_51 : decode cX3_heldBack 51 = .ok (.goto 4, 3) := dk_167 0 4 (dk_at dksX3_heldBack_2 3 rfl rfl)
theorem dX3_heldBack_54 : decode cX3_heldBack 54 = .ok (.iconst 0, 1) := dk_3 (dk_at dksX3_heldBack_2 6 rfl rfl)
theorem dX3_heldBack_55 : decode cX3_heldBack 55 = .ok (.ior, 1) := dk_128 (dk_at dksX3_heldBack_2 7 rfl rfl)
theorem dX3_heldBack_56 : decode cX3_heldBack 56 = .ok (.istore_n 1, 1) := dk_60 (dk_at dksX3_heldBack_2 8 rfl rfl)
theorem dX3_heldBack_57 : decode cX3_heldBack 57 = .ok (.iinc 3 1, 3) := dk_132 3 1 (dk_at dksX3_heldBack_2 9 rfl rfl)
theorem dX3_heldBack_60 : decode cX3_heldBack 60 = .ok (.goto (-46), 3) := dk_167 255 210 (dk_at dksX3_heldBack_2 12 rfl rfl)
theorem dX3_heldBack_63 : decode cX3_heldBack 63 = .ok (.iinc 2 1, 3) := dk_132 2 1 (dk_at dksX3_heldBack_2 15 rfl rfl)
theorem dX3_heldBack_66 : decode cX3_heldBack 66 = .ok (.goto (-62), 3) := dk_167 255 194 (dk_at dksX3_heldBack_2 18 rfl rfl)
theorem dX3_heldBack_69 : decode cX3_heldBack 69 = .ok (.iload_n 1, 1) := dk_27 (dk_at dksX3_heldBack_2 21 rfl rfl)
theorem dX3_heldBack_70 : decode cX3_heldBack 70 = .ok (.ireturn, 1) := dk_172 (dk_at dksX3_heldBack_2 22 rfl rfl)
abbrev cX3_shouldBe : ByteArray := prog_34_method_56_code
def yX3_shouldBe : MethodName := ⟨RX3, "shouldBe", "()I"⟩
def dkwX3_shouldBe_4 : List UInt8 := [172]
abbrev dktX3_shouldBe_4 : List UInt8 := dkwX3_shouldBe_4 ++ []
def dkwX3_shouldBe_3 : List UInt8 := [167, 255, 210, 27, 29, 158, 0, 9, 4, 28, 120, 167, 0, 4, 3, 128, 60, 132, 2, 1, 167, 255, 169, 27]
abbrev dktX3_shouldBe_3 : List UInt8 := dkwX3_shouldBe_3 ++ dktX3_shouldBe_4
def dkwX3_shouldBe_2 : List UInt8 := [21, 4, 182, 1, 102, 153, 0, 13, 42, 180, 0, 28, 21, 4, 46, 167, 0, 4, 3, 96, 62, 132, 4, 1]
abbrev dktX3_shouldBe_2 : List UInt8 := dkwX3_shouldBe_2 ++ dktX3_shouldBe_3
def dkwX3_shouldBe_1 : List UInt8 := [54, 4, 21, 4, 42, 180, 0, 169, 162, 0, 43, 29, 42, 180, 0, 25, 21, 4, 46, 28, 160, 0, 22, 42]
abbrev dktX3_shouldBe_1 : List UInt8 := dkwX3_shouldBe_1 ++ dktX3_shouldBe_2
def dkwX3_shouldBe_0 : List UInt8 := [3, 60, 3, 61, 28, 42, 180, 0, 166, 162, 0, 85, 42, 180, 0, 9, 16, 30, 28, 96, 46, 62, 3]
abbrev dktX3_shouldBe_0 : List UInt8 := dkwX3_shouldBe_0 ++ dktX3_shouldBe_1
theorem dksX3_shouldBe_0 : cX3_shouldBe.data.toList.drop 0 = dktX3_shouldBe_0 := by decide +kernel
theorem dksX3_shouldBe_1 : cX3_shouldBe.data.toList.drop 23 = dktX3_shouldBe_1 := dk_seg dksX3_shouldBe_0 23 rfl rfl
theorem dksX3_shouldBe_2 : cX3_shouldBe.data.toList.drop 47 = dktX3_shouldBe_2 := dk_seg dksX3_shouldBe_1 24 rfl rfl
theorem dksX3_shouldBe_3 : cX3_shouldBe.data.toList.drop 71 = dktX3_shouldBe_3 := dk_seg dksX3_shouldBe_2 24 rfl rfl
theorem dksX3_shouldBe_4 : cX3_shouldBe.data.toList.drop 95 = dktX3_shouldBe_4 := dk_seg dksX3_shouldBe_3 24 rfl rfl
theorem dX3_shouldBe_0 : decode cX3_shouldBe 0 = .ok (.iconst 0, 1) := dk_3 (dk_at dksX3_shouldBe_0 0 rfl rfl)
theorem dX3_shouldBe_1 : decode cX3_shouldBe 1 = .ok (.istore_n 1, 1) := dk_60 (dk_at dksX3_shouldBe_0 1 rfl rfl)
theorem dX3_shouldBe_2 : decode cX3_shouldBe 2 = .ok (.iconst 0, 1) := dk_3 (dk_at dksX3_shouldBe_0 2 rfl rfl)
theorem dX3_shouldBe_3 : decode cX3_shouldBe 3 = .ok (.istore_n 2, 1) := dk_61 (dk_at dksX3_shouldBe_0 3 rfl rfl)
theorem dX3_shouldBe_4 : decode cX3_shouldBe 4 = .ok (.iload_n 2, 1) := dk_28 (dk_at dksX3_shouldBe_0 4 rfl rfl)
theorem dX3_shouldBe_5 : decode cX3_shouldBe 5 = .ok (.aload_n 0, 1) := dk_42 (dk_at dksX3_shouldBe_0 5 rfl rfl)
theorem dX3_shouldBe_6 : decode cX3_shouldBe 6 = .ok (.getfield 166, 3) := dk_180 0 166 (dk_at dksX3_shouldBe_0 6 rfl rfl)
theorem dX3_shouldBe_9 : decode cX3_shouldBe 9 = .ok (.if_icmp .ge 85, 3) := dk_162 0 85 (dk_at dksX3_shouldBe_0 9 rfl rfl)
theorem dX3_shouldBe_12 : decode cX3_shouldBe 12 = .ok (.aload_n 0, 1) := dk_42 (dk_at dksX3_shouldBe_0 12 rfl rfl)
theorem dX3_shouldBe_13 : decode cX3_shouldBe 13 = .ok (.getfield 9, 3) := dk_180 0 9 (dk_at dksX3_shouldBe_0 13 rfl rfl)
theorem dX3_shouldBe_16 : decode cX3_shouldBe 16 = .ok (.bipush 30, 2) := dk_16 30 (dk_at dksX3_shouldBe_0 16 rfl rfl)
theorem dX3_shouldBe_18 : decode cX3_shouldBe 18 = .ok (.iload_n 2, 1) := dk_28 (dk_at dksX3_shouldBe_0 18 rfl rfl)
theorem dX3_shouldBe_19 : decode cX3_shouldBe 19 = .ok (.iadd, 1) := dk_96 (dk_at dksX3_shouldBe_0 19 rfl rfl)
theorem dX3_shouldBe_20 : decode cX3_shouldBe 20 = .ok (.iaload, 1) := dk_46 (dk_at dksX3_shouldBe_0 20 rfl rfl)
theorem dX3_shouldBe_21 : decode cX3_shouldBe 21 = .ok (.istore_n 3, 1) := dk_62 (dk_at dksX3_shouldBe_0 21 rfl rfl)
theorem dX3_shouldBe_22 : decode cX3_shouldBe 22 = .ok (.iconst 0, 1) := dk_3 (dk_at dksX3_shouldBe_0 22 rfl rfl)
theorem dX3_shouldBe_23 : decode cX3_shouldBe 23 = .ok (.istore 4, 2) := dk_54 4 (dk_at dksX3_shouldBe_1 0 rfl rfl)
theorem dX3_shouldBe_25 : decode cX3_shouldBe 25 = .ok (.iload 4, 2) := dk_21 4 (dk_at dksX3_shouldBe_1 2 rfl rfl)
theorem dX3_shouldBe_27 : decode cX3_shouldBe 27 = .ok (.aload_n 0, 1) := dk_42 (dk_at dksX3_shouldBe_1 4 rfl rfl)
theorem dX3_shouldBe_28 : decode cX3_shouldBe 28 = .ok (.getfield 169, 3) := dk_180 0 169 (dk_at dksX3_shouldBe_1 5 rfl rfl)
theorem dX3_shouldBe_31 : decode cX3_shouldBe 31 = .ok (.if_icmp .ge 43, 3) := dk_162 0 43 (dk_at dksX3_shouldBe_1 8 rfl rfl)
theorem dX3_shouldBe_34 : decode cX3_shouldBe 34 = .ok (.iload_n 3, 1) := dk_29 (dk_at dksX3_shouldBe_1 11 rfl rfl)
theorem dX3_shouldBe_35 : decode cX3_shouldBe 35 = .ok (.aload_n 0, 1) := dk_42 (dk_at dksX3_shouldBe_1 12 rfl rfl)
theorem dX3_shouldBe_36 : decode cX3_shouldBe 36 = .ok (.getfield 25, 3) := dk_180 0 25 (dk_at dksX3_shouldBe_1 13 rfl rfl)
theorem dX3_shouldBe_39 : decode cX3_shouldBe 39 = .ok (.iload 4, 2) := dk_21 4 (dk_at dksX3_shouldBe_1 16 rfl rfl)
theorem dX3_shouldBe_41 : decode cX3_shouldBe 41 = .ok (.iaload, 1) := dk_46 (dk_at dksX3_shouldBe_1 18 rfl rfl)
theorem dX3_shouldBe_42 : decode cX3_shouldBe 42 = .ok (.iload_n 2, 1) := dk_28 (dk_at dksX3_shouldBe_1 19 rfl rfl)
theorem dX3_shouldBe_43 : decode cX3_shouldBe 43 = .ok (.if_icmp .ne 22, 3) := dk_160 0 22 (dk_at dksX3_shouldBe_1 20 rfl rfl)
theorem dX3_shouldBe_46 : decode cX3_shouldBe 46 = .ok (.aload_n 0, 1) := dk_42 (dk_at dksX3_shouldBe_1 23 rfl rfl)
theorem dX3_shouldBe_47 : decode cX3_shouldBe 47 = .ok (.iload 4, 2) := dk_21 4 (dk_at dksX3_shouldBe_2 0 rfl rfl)
theorem dX3_shouldBe_49 : decode cX3_shouldBe 49 = .ok (.invokevirtual 358, 3) := dk_182 1 102 (dk_at dksX3_shouldBe_2 2 rfl rfl)
theorem dX3_shouldBe_52 : decode cX3_shouldBe 52 = .ok (.ifCond .eq 13, 3) := dk_153 0 13 (dk_at dksX3_shouldBe_2 5 rfl rfl)
theorem dX3_shouldBe_55 : decode cX3_shouldBe 55 = .ok (.aload_n 0, 1) := dk_42 (dk_at dksX3_shouldBe_2 8 rfl rfl)
theorem dX3_shouldBe_56 : decode cX3_shouldBe 56 = .ok (.getfield 28, 3) := dk_180 0 28 (dk_at dksX3_shouldBe_2 9 rfl rfl)
theorem dX3_shouldBe_59 : decode cX3_shouldBe 59 = .ok (.iload 4, 2) := dk_21 4 (dk_at dksX3_shouldBe_2 12 rfl rfl)
theorem dX3_shouldBe_61 : decode cX3_shouldBe 61 = .ok (.iaload, 1) := dk_46 (dk_at dksX3_shouldBe_2 14 rfl rfl)
theorem dX3_shouldBe_62 : decode cX3_shouldBe 62 = .ok (.goto 4, 3) := dk_167 0 4 (dk_at dksX3_shouldBe_2 15 rfl rfl)
theorem dX3_shouldBe_65 : decode cX3_shouldBe 65 = .ok (.iconst 0, 1) := dk_3 (dk_at dksX3_shouldBe_2 18 rfl rfl)
theorem dX3_shouldBe_66 : decode cX3_shouldBe 66 = .ok (.iadd, 1) := dk_96 (dk_at dksX3_shouldBe_2 19 rfl rfl)
theorem dX3_shouldBe_67 : decode cX3_shouldBe 67 = .ok (.istore_n 3, 1) := dk_62 (dk_at dksX3_shouldBe_2 20 rfl rfl)
theorem dX3_shouldBe_68 : decode cX3_shouldBe 68 = .ok (.iinc 4 1, 3) := dk_132 4 1 (dk_at dksX3_shouldBe_2 21 rfl rfl)
theorem dX3_shouldBe_71 : decode cX3_shouldBe 71 = .ok (.goto (-46), 3) := dk_167 255 210 (dk_at dksX3_shouldBe_3 0 rfl rfl)
theorem dX3_shouldBe_74 : decode cX3_shouldBe 74 = .ok (.iload_n 1, 1) := dk_27 (dk_at dksX3_shouldBe_3 3 rfl rfl)
theorem dX3_shouldBe_75 : decode cX3_shouldBe 75 = .ok (.iload_n 3, 1) := dk_29 (dk_at dksX3_shouldBe_3 4 rfl rfl)
theorem dX3_shouldBe_76 : decode cX3_shouldBe 76 = .ok (.ifCond .le 9, 3) := dk_158 0 9 (dk_at dksX3_shouldBe_3 5 rfl rfl)
theorem dX3_shouldBe_79 : decode cX3_shouldBe 79 = .ok (.iconst 1, 1) := dk_4 (dk_at dksX3_shouldBe_3 8 rfl rfl)
theorem dX3_shouldBe_80 : decode cX3_shouldBe 80 = .ok (.iload_n 2, 1) := dk_28 (dk_at dksX3_shouldBe_3 9 rfl rfl)
theorem dX3_shouldBe_81 : decode cX3_shouldBe 81 = .ok (.ishl, 1) := dk_120 (dk_at dksX3_shouldBe_3 10 rfl rfl)
theorem dX3_shouldBe_82 : decode cX3_shouldBe 82 = .ok (.goto 4, 3) := dk_167 0 4 (dk_at dksX3_shouldBe_3 11 rfl rfl)
theorem dX3_shouldBe_85 : decode cX3_shouldBe 85 = .ok (.iconst 0, 1) := dk_3 (dk_at dksX3_shouldBe_3 14 rfl rfl)
theorem dX3_shouldBe_86 : decode cX3_shouldBe 86 = .ok (.ior, 1) := dk_128 (dk_at dksX3_shouldBe_3 15 rfl rfl)
theorem dX3_shouldBe_87 : decode cX3_shouldBe 87 = .ok (.istore_n 1, 1) := dk_60 (dk_at dksX3_shouldBe_3 16 rfl rfl)
theorem dX3_shouldBe_88 : decode cX3_shouldBe 88 = .ok (.iinc 2 1, 3) := dk_132 2 1 (dk_at dksX3_shouldBe_3 17 rfl rfl)
theorem dX3_shouldBe_91 : decode cX3_shouldBe 91 = .ok (.goto (-87), 3) := dk_167 255 169 (dk_at dksX3_shouldBe_3 20 rfl rfl)
theorem dX3_shouldBe_94 : decode cX3_shouldBe 94 = .ok (.iload_n 1, 1) := dk_27 (dk_at dksX3_shouldBe_3 23 rfl rfl)
theorem dX3_shouldBe_95 : decode cX3_shouldBe 95 = .ok (.ireturn, 1) := dk_172 (dk_at dksX3_shouldBe_4 0 rfl rfl)
abbrev cX3_isKnown : ByteArray := prog_34_method_55_code
def yX3_isKnown : MethodName := ⟨RX3, "isKnown", "(I)Z"⟩
def dkwX3_isKnown_0 : List UInt8 := [42, 180, 0, 31, 27, 46, 4, 42, 180, 0, 159, 120, 4, 100, 126, 153, 0, 7, 4, 167, 0, 4, 3, 172]
abbrev dktX3_isKnown_0 : List UInt8 := dkwX3_isKnown_0 ++ []
theorem dksX3_isKnown_0 : cX3_isKnown.data.toList.drop 0 = dktX3_isKnown_0 := by decide +kernel
theorem dX3_isKnown_0 : decode cX3_isKnown 0 = .ok (.aload_n 0, 1) := dk_42 (dk_at dksX3_isKnown_0 0 rfl rfl)
theorem dX3_isKnown_1 : decode cX3_isKnown 1 = .ok (.getfield 31, 3) := dk_180 0 31 (dk_at dksX3_isKnown_0 1 rfl rfl)
theorem dX3_isKnown_4 : decode cX3_isKnown 4 = .ok (.iload_n 1, 1) := dk_27 (dk_at dksX3_isKnown_0 4 rfl rfl)
theorem dX3_isKnown_5 : decode cX3_isKnown 5 = .ok (.iaload, 1) := dk_46 (dk_at dksX3_isKnown_0 5 rfl rfl)
theorem dX3_isKnown_6 : decode cX3_isKnown 6 = .ok (.iconst 1, 1) := dk_4 (dk_at dksX3_isKnown_0 6 rfl rfl)
theorem dX3_isKnown_7 : decode cX3_isKnown 7 = .ok (.aload_n 0, 1) := dk_42 (dk_at dksX3_isKnown_0 7 rfl rfl)
theorem dX3_isKnown_8 : decode cX3_isKnown 8 = .ok (.getfield 159, 3) := dk_180 0 159 (dk_at dksX3_isKnown_0 8 rfl rfl)
theorem dX3_isKnown_11 : decode cX3_isKnown 11 = .ok (.ishl, 1) := dk_120 (dk_at dksX3_isKnown_0 11 rfl rfl)
theorem dX3_isKnown_12 : decode cX3_isKnown 12 = .ok (.iconst 1, 1) := dk_4 (dk_at dksX3_isKnown_0 12 rfl rfl)
theorem dX3_isKnown_13 : decode cX3_isKnown 13 = .ok (.isub, 1) := dk_100 (dk_at dksX3_isKnown_0 13 rfl rfl)
theorem dX3_isKnown_14 : decode cX3_isKnown 14 = .ok (.iand, 1) := dk_126 (dk_at dksX3_isKnown_0 14 rfl rfl)
theorem dX3_isKnown_15 : decode cX3_isKnown 15 = .ok (.ifCond .eq 7, 3) := dk_153 0 7 (dk_at dksX3_isKnown_0 15 rfl rfl)
theorem dX3_isKnown_18 : decode cX3_isKnown 18 = .ok (.iconst 1, 1) := dk_4 (dk_at dksX3_isKnown_0 18 rfl rfl)
theorem dX3_isKnown_19 : decode cX3_isKnown 19 = .ok (.goto 4, 3) := dk_167 0 4 (dk_at dksX3_isKnown_0 19 rfl rfl)
theorem dX3_isKnown_22 : decode cX3_isKnown 22 = .ok (.iconst 0, 1) := dk_3 (dk_at dksX3_isKnown_0 22 rfl rfl)
theorem dX3_isKnown_23 : decode cX3_isKnown 23 = .ok (.ireturn, 1) := dk_172 (dk_at dksX3_isKnown_0 23 rfl rfl)
abbrev cX3_aloneSaid : ByteArray := prog_34_method_63_code
def yX3_aloneSaid : MethodName := ⟨RX3, "aloneSaid", "(Z)I"⟩
def dkwX3_aloneSaid_2 : List UInt8 := [28, 172]
abbrev dktX3_aloneSaid_2 : List UInt8 := dkwX3_aloneSaid_2 ++ []
def dkwX3_aloneSaid_1 : List UInt8 := [154, 0, 11, 42, 29, 182, 1, 40, 153, 0, 7, 4, 167, 0, 4, 3, 96, 61, 132, 3, 1, 167, 255, 217]
abbrev dktX3_aloneSaid_1 : List UInt8 := dkwX3_aloneSaid_1 ++ dktX3_aloneSaid_2
def dkwX3_aloneSaid_0 : List UInt8 := [3, 61, 3, 62, 29, 42, 180, 0, 169, 162, 0, 37, 28, 42, 29, 182, 1, 117, 153, 0, 19, 27]
abbrev dktX3_aloneSaid_0 : List UInt8 := dkwX3_aloneSaid_0 ++ dktX3_aloneSaid_1
theorem dksX3_aloneSaid_0 : cX3_aloneSaid.data.toList.drop 0 = dktX3_aloneSaid_0 := by decide +kernel
theorem dksX3_aloneSaid_1 : cX3_aloneSaid.data.toList.drop 22 = dktX3_aloneSaid_1 := dk_seg dksX3_aloneSaid_0 22 rfl rfl
theorem dksX3_aloneSaid_2 : cX3_aloneSaid.data.toList.drop 46 = dktX3_aloneSaid_2 := dk_seg dksX3_aloneSaid_1 24 rfl rfl
theorem dX3_aloneSaid_0 : decode cX3_aloneSaid 0 = .ok (.iconst 0, 1) := dk_3 (dk_at dksX3_aloneSaid_0 0 rfl rfl)
theorem dX3_aloneSaid_1 : decode cX3_aloneSaid 1 = .ok (.istore_n 2, 1) := dk_61 (dk_at dksX3_aloneSaid_0 1 rfl rfl)
theorem dX3_aloneSaid_2 : decode cX3_aloneSaid 2 = .ok (.iconst 0, 1) := dk_3 (dk_at dksX3_aloneSaid_0 2 rfl rfl)
theorem dX3_aloneSaid_3 : decode cX3_aloneSaid 3 = .ok (.istore_n 3, 1) := dk_62 (dk_at dksX3_aloneSaid_0 3 rfl rfl)
theorem dX3_aloneSaid_4 : decode cX3_aloneSaid 4 = .ok (.iload_n 3, 1) := dk_29 (dk_at dksX3_aloneSaid_0 4 rfl rfl)
theorem dX3_aloneSaid_5 : decode cX3_aloneSaid 5 = .ok (.aload_n 0, 1) := dk_42 (dk_at dksX3_aloneSaid_0 5 rfl rfl)
theorem dX3_aloneSaid_6 : decode cX3_aloneSaid 6 = .ok (.getfield 169, 3) := dk_180 0 169 (dk_at dksX3_aloneSaid_0 6 rfl rfl)
theorem dX3_aloneSaid_9 : decode cX3_aloneSaid 9 = .ok (.if_icmp .ge 37, 3) := dk_162 0 37 (dk_at dksX3_aloneSaid_0 9 rfl rfl)
theorem dX3_aloneSaid_12 : decode cX3_aloneSaid 12 = .ok (.iload_n 2, 1) := dk_28 (dk_at dksX3_aloneSaid_0 12 rfl rfl)
theorem dX3_aloneSaid_13 : decode cX3_aloneSaid 13 = .ok (.aload_n 0, 1) := dk_42 (dk_at dksX3_aloneSaid_0 13 rfl rfl)
theorem dX3_aloneSaid_14 : decode cX3_aloneSaid 14 = .ok (.iload_n 3, 1) := dk_29 (dk_at dksX3_aloneSaid_0 14 rfl rfl)
theorem dX3_aloneSaid_15 : decode cX3_aloneSaid 15 = .ok (.invokevirtual 373, 3) := dk_182 1 117 (dk_at dksX3_aloneSaid_0 15 rfl rfl)
theorem dX3_aloneSaid_18 : decode cX3_aloneSaid 18 = .ok (.ifCond .eq 19, 3) := dk_153 0 19 (dk_at dksX3_aloneSaid_0 18 rfl rfl)
theorem dX3_aloneSaid_21 : decode cX3_aloneSaid 21 = .ok (.iload_n 1, 1) := dk_27 (dk_at dksX3_aloneSaid_0 21 rfl rfl)
theorem dX3_aloneSaid_22 : decode cX3_aloneSaid 22 = .ok (.ifCond .ne 11, 3) := dk_154 0 11 (dk_at dksX3_aloneSaid_1 0 rfl rfl)
theorem dX3_aloneSaid_25 : decode cX3_aloneSaid 25 = .ok (.aload_n 0, 1) := dk_42 (dk_at dksX3_aloneSaid_1 3 rfl rfl)
theorem dX3_aloneSaid_26 : decode cX3_aloneSaid 26 = .ok (.iload_n 3, 1) := dk_29 (dk_at dksX3_aloneSaid_1 4 rfl rfl)
theorem dX3_aloneSaid_27 : decode cX3_aloneSaid 27 = .ok (.invokevirtual 296, 3) := dk_182 1 40 (dk_at dksX3_aloneSaid_1 5 rfl rfl)
theorem dX3_aloneSaid_30 : decode cX3_aloneSaid 30 = .ok (.ifCond .eq 7, 3) := dk_153 0 7 (dk_at dksX3_aloneSaid_1 8 rfl rfl)
theorem dX3_aloneSaid_33 : decode cX3_aloneSaid 33 = .ok (.iconst 1, 1) := dk_4 (dk_at dksX3_aloneSaid_1 11 rfl rfl)
theorem dX3_aloneSaid_34 : decode cX3_aloneSaid 34 = .ok (.goto 4, 3) := dk_167 0 4 (dk_at dksX3_aloneSaid_1 12 rfl rfl)
theorem dX3_aloneSaid_37 : decode cX3_aloneSaid 37 = .ok (.iconst 0, 1) := dk_3 (dk_at dksX3_aloneSaid_1 15 rfl rfl)
theorem dX3_aloneSaid_38 : decode cX3_aloneSaid 38 = .ok (.iadd, 1) := dk_96 (dk_at dksX3_aloneSaid_1 16 rfl rfl)
theorem dX3_aloneSaid_39 : decode cX3_aloneSaid 39 = .ok (.istore_n 2, 1) := dk_61 (dk_at dksX3_aloneSaid_1 17 rfl rfl)
theorem dX3_aloneSaid_40 : decode cX3_aloneSaid 40 = .ok (.iinc 3 1, 3) := dk_132 3 1 (dk_at dksX3_aloneSaid_1 18 rfl rfl)
theorem dX3_aloneSaid_43 : decode cX3_aloneSaid 43 = .ok (.goto (-39), 3) := dk_167 255 217 (dk_at dksX3_aloneSaid_1 21 rfl rfl)
theorem dX3_aloneSaid_46 : decode cX3_aloneSaid 46 = .ok (.iload_n 2, 1) := dk_28 (dk_at dksX3_aloneSaid_2 0 rfl rfl)
theorem dX3_aloneSaid_47 : decode cX3_aloneSaid 47 = .ok (.ireturn, 1) := dk_172 (dk_at dksX3_aloneSaid_2 1 rfl rfl)
abbrev cX3_isAlone : ByteArray := prog_34_method_62_code
def yX3_isAlone : MethodName := ⟨RX3, "isAlone", "(I)Z"⟩
def dkwX3_isAlone_1 : List UInt8 := [167, 0, 4, 3, 172]
abbrev dktX3_isAlone_1 : List UInt8 := dkwX3_isAlone_1 ++ []
def dkwX3_isAlone_0 : List UInt8 := [42, 180, 0, 31, 27, 46, 4, 42, 180, 0, 159, 120, 4, 100, 126, 184, 1, 111, 4, 160, 0, 7, 4]
abbrev dktX3_isAlone_0 : List UInt8 := dkwX3_isAlone_0 ++ dktX3_isAlone_1
theorem dksX3_isAlone_0 : cX3_isAlone.data.toList.drop 0 = dktX3_isAlone_0 := by decide +kernel
theorem dksX3_isAlone_1 : cX3_isAlone.data.toList.drop 23 = dktX3_isAlone_1 := dk_seg dksX3_isAlone_0 23 rfl rfl
theorem dX3_isAlone_0 : decode cX3_isAlone 0 = .ok (.aload_n 0, 1) := dk_42 (dk_at dksX3_isAlone_0 0 rfl rfl)
theorem dX3_isAlone_1 : decode cX3_isAlone 1 = .ok (.getfield 31, 3) := dk_180 0 31 (dk_at dksX3_isAlone_0 1 rfl rfl)
theorem dX3_isAlone_4 : decode cX3_isAlone 4 = .ok (.iload_n 1, 1) := dk_27 (dk_at dksX3_isAlone_0 4 rfl rfl)
theorem dX3_isAlone_5 : decode cX3_isAlone 5 = .ok (.iaload, 1) := dk_46 (dk_at dksX3_isAlone_0 5 rfl rfl)
theorem dX3_isAlone_6 : decode cX3_isAlone 6 = .ok (.iconst 1, 1) := dk_4 (dk_at dksX3_isAlone_0 6 rfl rfl)
theorem dX3_isAlone_7 : decode cX3_isAlone 7 = .ok (.aload_n 0, 1) := dk_42 (dk_at dksX3_isAlone_0 7 rfl rfl)
theorem dX3_isAlone_8 : decode cX3_isAlone 8 = .ok (.getfield 159, 3) := dk_180 0 159 (dk_at dksX3_isAlone_0 8 rfl rfl)
theorem dX3_isAlone_11 : decode cX3_isAlone 11 = .ok (.ishl, 1) := dk_120 (dk_at dksX3_isAlone_0 11 rfl rfl)
theorem dX3_isAlone_12 : decode cX3_isAlone 12 = .ok (.iconst 1, 1) := dk_4 (dk_at dksX3_isAlone_0 12 rfl rfl)
theorem dX3_isAlone_13 : decode cX3_isAlone 13 = .ok (.isub, 1) := dk_100 (dk_at dksX3_isAlone_0 13 rfl rfl)
theorem dX3_isAlone_14 : decode cX3_isAlone 14 = .ok (.iand, 1) := dk_126 (dk_at dksX3_isAlone_0 14 rfl rfl)
theorem dX3_isAlone_15 : decode cX3_isAlone 15 = .ok (.invokestatic 367, 3) := dk_184 1 111 (dk_at dksX3_isAlone_0 15 rfl rfl)
theorem dX3_isAlone_18 : decode cX3_isAlone 18 = .ok (.iconst 1, 1) := dk_4 (dk_at dksX3_isAlone_0 18 rfl rfl)
theorem dX3_isAlone_19 : decode cX3_isAlone 19 = .ok (.if_icmp .ne 7, 3) := dk_160 0 7 (dk_at dksX3_isAlone_0 19 rfl rfl)
theorem dX3_isAlone_22 : decode cX3_isAlone 22 = .ok (.iconst 1, 1) := dk_4 (dk_at dksX3_isAlone_0 22 rfl rfl)
theorem dX3_isAlone_23 : decode cX3_isAlone 23 = .ok (.goto 4, 3) := dk_167 0 4 (dk_at dksX3_isAlone_1 0 rfl rfl)
theorem dX3_isAlone_26 : decode cX3_isAlone 26 = .ok (.iconst 0, 1) := dk_3 (dk_at dksX3_isAlone_1 3 rfl rfl)
theorem dX3_isAlone_27 : decode cX3_isAlone 27 = .ok (.ireturn, 1) := dk_172 (dk_at dksX3_isAlone_1 4 rfl rfl)
