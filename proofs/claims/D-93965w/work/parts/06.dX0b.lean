set_option maxRecDepth 100000
abbrev cX0_byAll : ByteArray := prog_1_method_23_code
def yX0_byAll : MethodName := ⟨RX0, "byAll", "()I"⟩
def dkwX0_byAll_4 : List UInt8 := [132, 2, 1, 167, 255, 166, 27, 172]
abbrev dktX0_byAll_4 : List UInt8 := dkwX0_byAll_4 ++ []
def dkwX0_byAll_3 : List UInt8 := [50, 180, 0, 167, 96, 62, 132, 4, 1, 167, 255, 203, 29, 158, 0, 9, 27, 4, 28, 120, 128, 60]
abbrev dktX0_byAll_3 : List UInt8 := dkwX0_byAll_3 ++ dktX0_byAll_4
def dkwX0_byAll_2 : List UInt8 := [160, 0, 30, 42, 42, 180, 0, 23, 21, 4, 50, 182, 0, 242, 153, 0, 16, 29, 42, 180, 0, 23, 21, 4]
abbrev dktX0_byAll_2 : List UInt8 := dkwX0_byAll_2 ++ dktX0_byAll_3
def dkwX0_byAll_1 : List UInt8 := [54, 4, 21, 4, 42, 180, 0, 108, 162, 0, 50, 42, 180, 0, 23, 21, 4, 50, 180, 0, 164, 28]
abbrev dktX0_byAll_1 : List UInt8 := dkwX0_byAll_1 ++ dktX0_byAll_2
def dkwX0_byAll_0 : List UInt8 := [3, 60, 3, 61, 28, 42, 180, 0, 95, 162, 0, 88, 42, 180, 0, 17, 28, 50, 180, 0, 158, 62, 3]
abbrev dktX0_byAll_0 : List UInt8 := dkwX0_byAll_0 ++ dktX0_byAll_1
theorem dksX0_byAll_0 : cX0_byAll.data.toList.drop 0 = dktX0_byAll_0 := by decide +kernel
theorem dksX0_byAll_1 : cX0_byAll.data.toList.drop 23 = dktX0_byAll_1 := dk_seg dksX0_byAll_0 23 rfl rfl
theorem dksX0_byAll_2 : cX0_byAll.data.toList.drop 45 = dktX0_byAll_2 := dk_seg dksX0_byAll_1 22 rfl rfl
theorem dksX0_byAll_3 : cX0_byAll.data.toList.drop 69 = dktX0_byAll_3 := dk_seg dksX0_byAll_2 24 rfl rfl
theorem dksX0_byAll_4 : cX0_byAll.data.toList.drop 91 = dktX0_byAll_4 := dk_seg dksX0_byAll_3 22 rfl rfl
theorem dX0_byAll_0 : decode cX0_byAll 0 = .ok (.iconst 0, 1) := dk_3 (dk_at dksX0_byAll_0 0 rfl rfl)
theorem dX0_byAll_1 : decode cX0_byAll 1 = .ok (.istore_n 1, 1) := dk_60 (dk_at dksX0_byAll_0 1 rfl rfl)
theorem dX0_byAll_2 : decode cX0_byAll 2 = .ok (.iconst 0, 1) := dk_3 (dk_at dksX0_byAll_0 2 rfl rfl)
theorem dX0_byAll_3 : decode cX0_byAll 3 = .ok (.istore_n 2, 1) := dk_61 (dk_at dksX0_byAll_0 3 rfl rfl)
theorem dX0_byAll_4 : decode cX0_byAll 4 = .ok (.iload_n 2, 1) := dk_28 (dk_at dksX0_byAll_0 4 rfl rfl)
theorem dX0_byAll_5 : decode cX0_byAll 5 = .ok (.aload_n 0, 1) := dk_42 (dk_at dksX0_byAll_0 5 rfl rfl)
theorem dX0_byAll_6 : decode cX0_byAll 6 = .ok (.getfield 95, 3) := dk_180 0 95 (dk_at dksX0_byAll_0 6 rfl rfl)
theorem dX0_byAll_9 : decode cX0_byAll 9 = .ok (.if_icmp .ge 88, 3) := dk_162 0 88 (dk_at dksX0_byAll_0 9 rfl rfl)
theorem dX0_byAll_12 : decode cX0_byAll 12 = .ok (.aload_n 0, 1) := dk_42 (dk_at dksX0_byAll_0 12 rfl rfl)
theorem dX0_byAll_13 : decode cX0_byAll 13 = .ok (.getfield 17, 3) := dk_180 0 17 (dk_at dksX0_byAll_0 13 rfl rfl)
theorem dX0_byAll_16 : decode cX0_byAll 16 = .ok (.iload_n 2, 1) := dk_28 (dk_at dksX0_byAll_0 16 rfl rfl)
theorem dX0_byAll_17 : decode cX0_byAll 17 = .ok (.aaload, 1) := dk_50 (dk_at dksX0_byAll_0 17 rfl rfl)
theorem dX0_byAll_18 : decode cX0_byAll 18 = .ok (.getfield 158, 3) := dk_180 0 158 (dk_at dksX0_byAll_0 18 rfl rfl)
theorem dX0_byAll_21 : decode cX0_byAll 21 = .ok (.istore_n 3, 1) := dk_62 (dk_at dksX0_byAll_0 21 rfl rfl)
theorem dX0_byAll_22 : decode cX0_byAll 22 = .ok (.iconst 0, 1) := dk_3 (dk_at dksX0_byAll_0 22 rfl rfl)
theorem dX0_byAll_23 : decode cX0_byAll 23 = .ok (.istore 4, 2) := dk_54 4 (dk_at dksX0_byAll_1 0 rfl rfl)
theorem dX0_byAll_25 : decode cX0_byAll 25 = .ok (.iload 4, 2) := dk_21 4 (dk_at dksX0_byAll_1 2 rfl rfl)
theorem dX0_byAll_27 : decode cX0_byAll 27 = .ok (.aload_n 0, 1) := dk_42 (dk_at dksX0_byAll_1 4 rfl rfl)
theorem dX0_byAll_28 : decode cX0_byAll 28 = .ok (.getfield 108, 3) := dk_180 0 108 (dk_at dksX0_byAll_1 5 rfl rfl)
theorem dX0_byAll_31 : decode cX0_byAll 31 = .ok (.if_icmp .ge 50, 3) := dk_162 0 50 (dk_at dksX0_byAll_1 8 rfl rfl)
theorem dX0_byAll_34 : decode cX0_byAll 34 = .ok (.aload_n 0, 1) := dk_42 (dk_at dksX0_byAll_1 11 rfl rfl)
theorem dX0_byAll_35 : decode cX0_byAll 35 = .ok (.getfield 23, 3) := dk_180 0 23 (dk_at dksX0_byAll_1 12 rfl rfl)
theorem dX0_byAll_38 : decode cX0_byAll 38 = .ok (.iload 4, 2) := dk_21 4 (dk_at dksX0_byAll_1 15 rfl rfl)
theorem dX0_byAll_40 : decode cX0_byAll 40 = .ok (.aaload, 1) := dk_50 (dk_at dksX0_byAll_1 17 rfl rfl)
theorem dX0_byAll_41 : decode cX0_byAll 41 = .ok (.getfield 164, 3) := dk_180 0 164 (dk_at dksX0_byAll_1 18 rfl rfl)
theorem dX0_byAll_44 : decode cX0_byAll 44 = .ok (.iload_n 2, 1) := dk_28 (dk_at dksX0_byAll_1 21 rfl rfl)
theorem dX0_byAll_45 : decode cX0_byAll 45 = .ok (.if_icmp .ne 30, 3) := dk_160 0 30 (dk_at dksX0_byAll_2 0 rfl rfl)
theorem dX0_byAll_48 : decode cX0_byAll 48 = .ok (.aload_n 0, 1) := dk_42 (dk_at dksX0_byAll_2 3 rfl rfl)
theorem dX0_byAll_49 : decode cX0_byAll 49 = .ok (.aload_n 0, 1) := dk_42 (dk_at dksX0_byAll_2 4 rfl rfl)
theorem dX0_byAll_50 : decode cX0_byAll 50 = .ok (.getfield 23, 3) := dk_180 0 23 (dk_at dksX0_byAll_2 5 rfl rfl)
theorem dX0_byAll_53 : decode cX0_byAll 53 = .ok (.iload 4, 2) := dk_21 4 (dk_at dksX0_byAll_2 8 rfl rfl)
theorem dX0_byAll_55 : decode cX0_byAll 55 = .ok (.aaload, 1) := dk_50 (dk_at dksX0_byAll_2 10 rfl rfl)
theorem dX0_byAll_56 : decode cX0_byAll 56 = .ok (.invokevirtual 242, 3) := dk_182 0 242 (dk_at dksX0_byAll_2 11 rfl rfl)
theorem dX0_byAll_59 : decode cX0_byAll 59 = .ok (.ifCond .eq 16, 3) := dk_153 0 16 (dk_at dksX0_byAll_2 14 rfl rfl)
theorem dX0_byAll_62 : decode cX0_byAll 62 = .ok (.iload_n 3, 1) := dk_29 (dk_at dksX0_byAll_2 17 rfl rfl)
theorem dX0_byAll_63 : decode cX0_byAll 63 = .ok (.aload_n 0, 1) := dk_42 (dk_at dksX0_byAll_2 18 rfl rfl)
theorem dX0_byAll_64 : decode cX0_byAll 64 = .ok (.getfield 23, 3) := dk_180 0 23 (dk_at dksX0_byAll_2 19 rfl rfl)
theorem dX0_byAll_67 : decode cX0_byAll 67 = .ok (.iload 4, 2) := dk_21 4 (dk_at dksX0_byAll_2 22 rfl rfl)
theorem dX0_byAll_69 : decode cX0_byAll 69 = .ok (.aaload, 1) := dk_50 (dk_at dksX0_byAll_3 0 rfl rfl)
theorem dX0_byAll_70 : decode cX0_byAll 70 = .ok (.getfield 167, 3) := dk_180 0 167 (dk_at dksX0_byAll_3 1 rfl rfl)
theorem dX0_byAll_73 : decode cX0_byAll 73 = .ok (.iadd, 1) := dk_96 (dk_at dksX0_byAll_3 4 rfl rfl)
theorem dX0_byAll_74 : decode cX0_byAll 74 = .ok (.istore_n 3, 1) := dk_62 (dk_at dksX0_byAll_3 5 rfl rfl)
theorem dX0_byAll_75 : decode cX0_byAll 75 = .ok (.iinc 4 1, 3) := dk_132 4 1 (dk_at dksX0_byAll_3 6 rfl rfl)
theorem dX0_byAll_78 : decode cX0_byAll 78 = .ok (.goto (-53), 3) := dk_167 255 203 (dk_at dksX0_byAll_3 9 rfl rfl)
theorem dX0_byAll_81 : decode cX0_byAll 81 = .ok (.iload_n 3, 1) := dk_29 (dk_at dksX0_byAll_3 12 rfl rfl)
theorem dX0_byAll_82 : decode cX0_byAll 82 = .ok (.ifCond .le 9, 3) := dk_158 0 9 (dk_at dksX0_byAll_3 13 rfl rfl)
theorem dX0_byAll_85 : decode cX0_byAll 85 = .ok (.iload_n 1, 1) := dk_27 (dk_at dksX0_byAll_3 16 rfl rfl)
theorem dX0_byAll_86 : decode cX0_byAll 86 = .ok (.iconst 1, 1) := dk_4 (dk_at dksX0_byAll_3 17 rfl rfl)
theorem dX0_byAll_87 : decode cX0_byAll 87 = .ok (.iload_n 2, 1) := dk_28 (dk_at dksX0_byAll_3 18 rfl rfl)
theorem dX0_byAll_88 : decode cX0_byAll 88 = .ok (.ishl, 1) := dk_120 (dk_at dksX0_byAll_3 19 rfl rfl)
theorem dX0_byAll_89 : decode cX0_byAll 89 = .ok (.ior, 1) := dk_128 (dk_at dksX0_byAll_3 20 rfl rfl)
theorem dX0_byAll_90 : decode cX0_byAll 90 = .ok (.istore_n 1, 1) := dk_60 (dk_at dksX0_byAll_3 21 rfl rfl)
theorem dX0_byAll_91 : decode cX0_byAll 91 = .ok (.iinc 2 1, 3) := dk_132 2 1 (dk_at dksX0_byAll_4 0 rfl rfl)
theorem dX0_byAll_94 : decode cX0_byAll 94 = .ok (.goto (-90), 3) := dk_167 255 166 (dk_at dksX0_byAll_4 3 rfl rfl)
theorem dX0_byAll_97 : decode cX0_byAll 97 = .ok (.iload_n 1, 1) := dk_27 (dk_at dksX0_byAll_4 6 rfl rfl)
theorem dX0_byAll_98 : decode cX0_byAll 98 = .ok (.ireturn, 1) := dk_172 (dk_at dksX0_byAll_4 7 rfl rfl)
abbrev cX0_isKnown : ByteArray := prog_1_method_22_code
def yX0_isKnown : MethodName := ⟨RX0, "isKnown", "(LSpeaksInTurn$Card;)Z"⟩
def dkwX0_isKnown_0 : List UInt8 := [43, 180, 0, 170, 4, 42, 180, 0, 88, 120, 4, 100, 126, 153, 0, 7, 4, 167, 0, 4, 3, 172]
abbrev dktX0_isKnown_0 : List UInt8 := dkwX0_isKnown_0 ++ []
theorem dksX0_isKnown_0 : cX0_isKnown.data.toList.drop 0 = dktX0_isKnown_0 := by decide +kernel
theorem dX0_isKnown_0 : decode cX0_isKnown 0 = .ok (.aload_n 1, 1) := dk_43 (dk_at dksX0_isKnown_0 0 rfl rfl)
theorem dX0_isKnown_1 : decode cX0_isKnown 1 = .ok (.getfield 170, 3) := dk_180 0 170 (dk_at dksX0_isKnown_0 1 rfl rfl)
theorem dX0_isKnown_4 : decode cX0_isKnown 4 = .ok (.iconst 1, 1) := dk_4 (dk_at dksX0_isKnown_0 4 rfl rfl)
theorem dX0_isKnown_5 : decode cX0_isKnown 5 = .ok (.aload_n 0, 1) := dk_42 (dk_at dksX0_isKnown_0 5 rfl rfl)
theorem dX0_isKnown_6 : decode cX0_isKnown 6 = .ok (.getfield 88, 3) := dk_180 0 88 (dk_at dksX0_isKnown_0 6 rfl rfl)
theorem dX0_isKnown_9 : decode cX0_isKnown 9 = .ok (.ishl, 1) := dk_120 (dk_at dksX0_isKnown_0 9 rfl rfl)
theorem dX0_isKnown_10 : decode cX0_isKnown 10 = .ok (.iconst 1, 1) := dk_4 (dk_at dksX0_isKnown_0 10 rfl rfl)
theorem dX0_isKnown_11 : decode cX0_isKnown 11 = .ok (.isub, 1) := dk_100 (dk_at dksX0_isKnown_0 11 rfl rfl)
theorem dX0_isKnown_12 : decode cX0_isKnown 12 = .ok (.iand, 1) := dk_126 (dk_at dksX0_isKnown_0 12 rfl rfl)
theorem dX0_isKnown_13 : decode cX0_isKnown 13 = .ok (.ifCond .eq 7, 3) := dk_153 0 7 (dk_at dksX0_isKnown_0 13 rfl rfl)
theorem dX0_isKnown_16 : decode cX0_isKnown 16 = .ok (.iconst 1, 1) := dk_4 (dk_at dksX0_isKnown_0 16 rfl rfl)
theorem dX0_isKnown_17 : decode cX0_isKnown 17 = .ok (.goto 4, 3) := dk_167 0 4 (dk_at dksX0_isKnown_0 17 rfl rfl)
theorem dX0_isKnown_20 : decode cX0_isKnown 20 = .ok (.iconst 0, 1) := dk_3 (dk_at dksX0_isKnown_0 20 rfl rfl)
theorem dX0_isKnown_21 : decode cX0_isKnown 21 = .ok (.ireturn, 1) := dk_172 (dk_at dksX0_isKnown_0 21 rfl rfl)
abbrev cX0_alone : ByteArray := prog_1_method_28_code
def yX0_alone : MethodName := ⟨RX0, "alone", "(I)I"⟩
def dkwX0_alone_2 : List UInt8 := [4, 167, 0, 4, 3, 96, 61, 132, 3, 1, 167, 255, 203, 28, 172]
abbrev dktX0_alone_2 : List UInt8 := dkwX0_alone_2 ++ []
def dkwX0_alone_1 : List UInt8 := [180, 0, 23, 29, 50, 180, 0, 170, 4, 42, 180, 0, 88, 120, 4, 100, 126, 184, 1, 54, 4, 160, 0, 7]
abbrev dktX0_alone_1 : List UInt8 := dkwX0_alone_1 ++ dktX0_alone_2
def dkwX0_alone_0 : List UInt8 := [3, 61, 3, 62, 29, 42, 180, 0, 108, 162, 0, 51, 28, 27, 29, 122, 4, 126, 4, 160, 0, 32, 42]
abbrev dktX0_alone_0 : List UInt8 := dkwX0_alone_0 ++ dktX0_alone_1
theorem dksX0_alone_0 : cX0_alone.data.toList.drop 0 = dktX0_alone_0 := by decide +kernel
theorem dksX0_alone_1 : cX0_alone.data.toList.drop 23 = dktX0_alone_1 := dk_seg dksX0_alone_0 23 rfl rfl
theorem dksX0_alone_2 : cX0_alone.data.toList.drop 47 = dktX0_alone_2 := dk_seg dksX0_alone_1 24 rfl rfl
theorem dX0_alone_0 : decode cX0_alone 0 = .ok (.iconst 0, 1) := dk_3 (dk_at dksX0_alone_0 0 rfl rfl)
theorem dX0_alone_1 : decode cX0_alone 1 = .ok (.istore_n 2, 1) := dk_61 (dk_at dksX0_alone_0 1 rfl rfl)
theorem dX0_alone_2 : decode cX0_alone 2 = .ok (.iconst 0, 1) := dk_3 (dk_at dksX0_alone_0 2 rfl rfl)
theorem dX0_alone_3 : decode cX0_alone 3 = .ok (.istore_n 3, 1) := dk_62 (dk_at dksX0_alone_0 3 rfl rfl)
theorem dX0_alone_4 : decode cX0_alone 4 = .ok (.iload_n 3, 1) := dk_29 (dk_at dksX0_alone_0 4 rfl rfl)
theorem dX0_alone_5 : decode cX0_alone 5 = .ok (.aload_n 0, 1) := dk_42 (dk_at dksX0_alone_0 5 rfl rfl)
theorem dX0_alone_6 : decode cX0_alone 6 = .ok (.getfield 108, 3) := dk_180 0 108 (dk_at dksX0_alone_0 6 rfl rfl)
theorem dX0_alone_9 : decode cX0_alone 9 = .ok (.if_icmp .ge 51, 3) := dk_162 0 51 (dk_at dksX0_alone_0 9 rfl rfl)
theorem dX0_alone_12 : decode cX0_alone 12 = .ok (.iload_n 2, 1) := dk_28 (dk_at dksX0_alone_0 12 rfl rfl)
theorem dX0_alone_13 : decode cX0_alone 13 = .ok (.iload_n 1, 1) := dk_27 (dk_at dksX0_alone_0 13 rfl rfl)
theorem dX0_alone_14 : decode cX0_alone 14 = .ok (.iload_n 3, 1) := dk_29 (dk_at dksX0_alone_0 14 rfl rfl)
theorem dX0_alone_15 : decode cX0_alone 15 = .ok (.ishr, 1) := dk_122 (dk_at dksX0_alone_0 15 rfl rfl)
theorem dX0_alone_16 : decode cX0_alone 16 = .ok (.iconst 1, 1) := dk_4 (dk_at dksX0_alone_0 16 rfl rfl)
theorem dX0_alone_17 : decode cX0_alone 17 = .ok (.iand, 1) := dk_126 (dk_at dksX0_alone_0 17 rfl rfl)
theorem dX0_alone_18 : decode cX0_alone 18 = .ok (.iconst 1, 1) := dk_4 (dk_at dksX0_alone_0 18 rfl rfl)
theorem dX0_alone_19 : decode cX0_alone 19 = .ok (.if_icmp .ne 32, 3) := dk_160 0 32 (dk_at dksX0_alone_0 19 rfl rfl)
theorem dX0_alone_22 : decode cX0_alone 22 = .ok (.aload_n 0, 1) := dk_42 (dk_at dksX0_alone_0 22 rfl rfl)
theorem dX0_alone_23 : decode cX0_alone 23 = .ok (.getfield 23, 3) := dk_180 0 23 (dk_at dksX0_alone_1 0 rfl rfl)
theorem dX0_alone_26 : decode cX0_alone 26 = .ok (.iload_n 3, 1) := dk_29 (dk_at dksX0_alone_1 3 rfl rfl)
theorem dX0_alone_27 : decode cX0_alone 27 = .ok (.aaload, 1) := dk_50 (dk_at dksX0_alone_1 4 rfl rfl)
theorem dX0_alone_28 : decode cX0_alone 28 = .ok (.getfield 170, 3) := dk_180 0 170 (dk_at dksX0_alone_1 5 rfl rfl)
theorem dX0_alone_31 : decode cX0_alone 31 = .ok (.iconst 1, 1) := dk_4 (dk_at dksX0_alone_1 8 rfl rfl)
theorem dX0_alone_32 : decode cX0_alone 32 = .ok (.aload_n 0, 1) := dk_42 (dk_at dksX0_alone_1 9 rfl rfl)
theorem dX0_alone_33 : decode cX0_alone 33 = .ok (.getfield 88, 3) := dk_180 0 88 (dk_at dksX0_alone_1 10 rfl rfl)
theorem dX0_alone_36 : decode cX0_alone 36 = .ok (.ishl, 1) := dk_120 (dk_at dksX0_alone_1 13 rfl rfl)
theorem dX0_alone_37 : decode cX0_alone 37 = .ok (.iconst 1, 1) := dk_4 (dk_at dksX0_alone_1 14 rfl rfl)
theorem dX0_alone_38 : decode cX0_alone 38 = .ok (.isub, 1) := dk_100 (dk_at dksX0_alone_1 15 rfl rfl)
theorem dX0_alone_39 : decode cX0_alone 39 = .ok (.iand, 1) := dk_126 (dk_at dksX0_alone_1 16 rfl rfl)
theorem dX0_alone_40 : decode cX0_alone 40 = .ok (.invokestatic 310, 3) := dk_184 1 54 (dk_at dksX0_alone_1 17 rfl rfl)
theorem dX0_alone_43 : decode cX0_alone 43 = .ok (.iconst 1, 1) := dk_4 (dk_at dksX0_alone_1 20 rfl rfl)
theorem dX0_alone_44 : decode cX0_alone 44 = .ok (.if_icmp .ne 7, 3) := dk_160 0 7 (dk_at dksX0_alone_1 21 rfl rfl)
theorem dX0_alone_47 : decode cX0_alone 47 = .ok (.iconst 1, 1) := dk_4 (dk_at dksX0_alone_2 0 rfl rfl)
theorem dX0_alone_48 : decode cX0_alone 48 = .ok (.goto 4, 3) := dk_167 0 4 (dk_at dksX0_alone_2 1 rfl rfl)
theorem dX0_alone_51 : decode cX0_alone 51 = .ok (.iconst 0, 1) := dk_3 (dk_at dksX0_alone_2 4 rfl rfl)
theorem dX0_alone_52 : decode cX0_alone 52 = .ok (.iadd, 1) := dk_96 (dk_at dksX0_alone_2 5 rfl rfl)
theorem dX0_alone_53 : decode cX0_alone 53 = .ok (.istore_n 2, 1) := dk_61 (dk_at dksX0_alone_2 6 rfl rfl)
theorem dX0_alone_54 : decode cX0_alone 54 = .ok (.iinc 3 1, 3) := dk_132 3 1 (dk_at dksX0_alone_2 7 rfl rfl)
theorem dX0_alone_57 : decode cX0_alone 57 = .ok (.goto (-53), 3) := dk_167 255 203 (dk_at dksX0_alone_2 10 rfl rfl)
theorem dX0_alone_60 : decode cX0_alone 60 = .ok (.iload_n 2, 1) := dk_28 (dk_at dksX0_alone_2 13 rfl rfl)
theorem dX0_alone_61 : decode cX0_alone 61 = .ok (.ireturn, 1) := dk_172 (dk_at dksX0_alone_2 14 rfl rfl)
abbrev cX0_needed : ByteArray := prog_1_method_29_code
def yX0_needed : MethodName := ⟨RX0, "needed", "(I)I"⟩
def dkwX0_needed_2 : List UInt8 := [61, 132, 3, 1, 167, 255, 208, 28, 172]
abbrev dktX0_needed_2 : List UInt8 := dkwX0_needed_2 ++ []
def dkwX0_needed_1 : List UInt8 := [42, 180, 0, 27, 29, 182, 1, 0, 42, 180, 0, 61, 182, 1, 23, 27, 159, 0, 9, 28, 4, 29, 120, 128]
abbrev dktX0_needed_1 : List UInt8 := dkwX0_needed_1 ++ dktX0_needed_2
def dkwX0_needed_0 : List UInt8 := [3, 61, 3, 62, 29, 42, 180, 0, 88, 162, 0, 46, 42, 180, 0, 61, 42, 180, 0, 48, 42, 180, 0, 136]
abbrev dktX0_needed_0 : List UInt8 := dkwX0_needed_0 ++ dktX0_needed_1
theorem dksX0_needed_0 : cX0_needed.data.toList.drop 0 = dktX0_needed_0 := by decide +kernel
theorem dksX0_needed_1 : cX0_needed.data.toList.drop 24 = dktX0_needed_1 := dk_seg dksX0_needed_0 24 rfl rfl
theorem dksX0_needed_2 : cX0_needed.data.toList.drop 48 = dktX0_needed_2 := dk_seg dksX0_needed_1 24 rfl rfl
theorem dX0_needed_0 : decode cX0_needed 0 = .ok (.iconst 0, 1) := dk_3 (dk_at dksX0_needed_0 0 rfl rfl)
theorem dX0_needed_1 : decode cX0_needed 1 = .ok (.istore_n 2, 1) := dk_61 (dk_at dksX0_needed_0 1 rfl rfl)
theorem dX0_needed_2 : decode cX0_needed 2 = .ok (.iconst 0, 1) := dk_3 (dk_at dksX0_needed_0 2 rfl rfl)
theorem dX0_needed_3 : decode cX0_needed 3 = .ok (.istore_n 3, 1) := dk_62 (dk_at dksX0_needed_0 3 rfl rfl)
theorem dX0_needed_4 : decode cX0_needed 4 = .ok (.iload_n 3, 1) := dk_29 (dk_at dksX0_needed_0 4 rfl rfl)
theorem dX0_needed_5 : decode cX0_needed 5 = .ok (.aload_n 0, 1) := dk_42 (dk_at dksX0_needed_0 5 rfl rfl)
theorem dX0_needed_6 : decode cX0_needed 6 = .ok (.getfield 88, 3) := dk_180 0 88 (dk_at dksX0_needed_0 6 rfl rfl)
theorem dX0_needed_9 : decode cX0_needed 9 = .ok (.if_icmp .ge 46, 3) := dk_162 0 46 (dk_at dksX0_needed_0 9 rfl rfl)
theorem dX0_needed_12 : decode cX0_needed 12 = .ok (.aload_n 0, 1) := dk_42 (dk_at dksX0_needed_0 12 rfl rfl)
theorem dX0_needed_13 : decode cX0_needed 13 = .ok (.getfield 61, 3) := dk_180 0 61 (dk_at dksX0_needed_0 13 rfl rfl)
theorem dX0_needed_16 : decode cX0_needed 16 = .ok (.aload_n 0, 1) := dk_42 (dk_at dksX0_needed_0 16 rfl rfl)
theorem dX0_needed_17 : decode cX0_needed 17 = .ok (.getfield 48, 3) := dk_180 0 48 (dk_at dksX0_needed_0 17 rfl rfl)
theorem dX0_needed_20 : decode cX0_needed 20 = .ok (.aload_n 0, 1) := dk_42 (dk_at dksX0_needed_0 20 rfl rfl)
theorem dX0_needed_21 : decode cX0_needed 21 = .ok (.getfield 136, 3) := dk_180 0 136 (dk_at dksX0_needed_0 21 rfl rfl)
theorem dX0_needed_24 : decode cX0_needed 24 = .ok (.aload_n 0, 1) := dk_42 (dk_at dksX0_needed_1 0 rfl rfl)
theorem dX0_needed_25 : decode cX0_needed 25 = .ok (.getfield 27, 3) := dk_180 0 27 (dk_at dksX0_needed_1 1 rfl rfl)
theorem dX0_needed_28 : decode cX0_needed 28 = .ok (.iload_n 3, 1) := dk_29 (dk_at dksX0_needed_1 4 rfl rfl)
theorem dX0_needed_29 : decode cX0_needed 29 = .ok (.invokevirtual 256, 3) := dk_182 1 0 (dk_at dksX0_needed_1 5 rfl rfl)
theorem dX0_needed_32 : decode cX0_needed 32 = .ok (.aload_n 0, 1) := dk_42 (dk_at dksX0_needed_1 8 rfl rfl)
theorem dX0_needed_33 : decode cX0_needed 33 = .ok (.getfield 61, 3) := dk_180 0 61 (dk_at dksX0_needed_1 9 rfl rfl)
theorem dX0_needed_36 : decode cX0_needed 36 = .ok (.invokevirtual 279, 3) := dk_182 1 23 (dk_at dksX0_needed_1 12 rfl rfl)
theorem dX0_needed_39 : decode cX0_needed 39 = .ok (.iload_n 1, 1) := dk_27 (dk_at dksX0_needed_1 15 rfl rfl)
theorem dX0_needed_40 : decode cX0_needed 40 = .ok (.if_icmp .eq 9, 3) := dk_159 0 9 (dk_at dksX0_needed_1 16 rfl rfl)
theorem dX0_needed_43 : decode cX0_needed 43 = .ok (.iload_n 2, 1) := dk_28 (dk_at dksX0_needed_1 19 rfl rfl)
theorem dX0_needed_44 : decode cX0_needed 44 = .ok (.iconst 1, 1) := dk_4 (dk_at dksX0_needed_1 20 rfl rfl)
theorem dX0_needed_45 : decode cX0_needed 45 = .ok (.iload_n 3, 1) := dk_29 (dk_at dksX0_needed_1 21 rfl rfl)
theorem dX0_needed_46 : decode cX0_needed 46 = .ok (.ishl, 1) := dk_120 (dk_at dksX0_needed_1 22 rfl rfl)
theorem dX0_needed_47 : decode cX0_needed 47 = .ok (.ior, 1) := dk_128 (dk_at dksX0_needed_1 23 rfl rfl)
theorem dX0_needed_48 : decode cX0_needed 48 = .ok (.istore_n 2, 1) := dk_61 (dk_at dksX0_needed_2 0 rfl rfl)
theorem dX0_needed_49 : decode cX0_needed 49 = .ok (.iinc 3 1, 3) := dk_132 3 1 (dk_at dksX0_needed_2 1 rfl rfl)
theorem dX0_needed_52 : decode cX0_needed 52 = .ok (.goto (-48), 3) := dk_167 255 208 (dk_at dksX0_needed_2 4 rfl rfl)
theorem dX0_needed_55 : decode cX0_needed 55 = .ok (.iload_n 2, 1) := dk_28 (dk_at dksX0_needed_2 7 rfl rfl)
theorem dX0_needed_56 : decode cX0_needed 56 = .ok (.ireturn, 1) := dk_172 (dk_at dksX0_needed_2 8 rfl rfl)
abbrev cX0_told : ByteArray := prog_1_method_30_code
def yX0_told : MethodName := ⟨RX0, "told", "(I)I"⟩
def dkwX0_told_1 : List UInt8 := [180, 0, 64, 27, 46, 167, 0, 5, 16, 251, 172]
abbrev dktX0_told_1 : List UInt8 := dkwX0_told_1 ++ []
def dkwX0_told_0 : List UInt8 := [27, 3, 16, 9, 184, 0, 91, 154, 0, 7, 2, 167, 0, 21, 42, 180, 1, 4, 153, 0, 12, 42]
abbrev dktX0_told_0 : List UInt8 := dkwX0_told_0 ++ dktX0_told_1
theorem dksX0_told_0 : cX0_told.data.toList.drop 0 = dktX0_told_0 := by decide +kernel
theorem dksX0_told_1 : cX0_told.data.toList.drop 22 = dktX0_told_1 := dk_seg dksX0_told_0 22 rfl rfl
theorem dX0_told_0 : decode cX0_told 0 = .ok (.iload_n 1, 1) := dk_27 (dk_at dksX0_told_0 0 rfl rfl)
theorem dX0_told_1 : decode cX0_told 1 = .ok (.iconst 0, 1) := dk_3 (dk_at dksX0_told_0 1 rfl rfl)
theorem dX0_told_2 : decode cX0_told 2 = .ok (.bipush 9, 2) := dk_16 9 (dk_at dksX0_told_0 2 rfl rfl)
theorem dX0_told_4 : decode cX0_told 4 = .ok (.invokestatic 91, 3) := dk_184 0 91 (dk_at dksX0_told_0 4 rfl rfl)
theorem dX0_told_7 : decode cX0_told 7 = .ok (.ifCond .ne 7, 3) := dk_154 0 7 (dk_at dksX0_told_0 7 rfl rfl)
theorem dX0_told_10 : decode cX0_told 10 = .ok (.iconst (-1), 1) := dk_2 (dk_at dksX0_told_0 10 rfl rfl)
theorem dX0_told_11 : decode cX0_told 11 = .ok (.goto 21, 3) := dk_167 0 21 (dk_at dksX0_told_0 11 rfl rfl)
theorem dX0_told_14 : decode cX0_told 14 = .ok (.aload_n 0, 1) := dk_42 (dk_at dksX0_told_0 14 rfl rfl)
theorem dX0_told_15 : decode cX0_told 15 = .ok (.getfield 260, 3) := dk_180 1 4 (dk_at dksX0_told_0 15 rfl rfl)
theorem dX0_told_18 : decode cX0_told 18 = .ok (.ifCond .eq 12, 3) := dk_153 0 12 (dk_at dksX0_told_0 18 rfl rfl)
theorem dX0_told_21 : decode cX0_told 21 = .ok (.aload_n 0, 1) := dk_42 (dk_at dksX0_told_0 21 rfl rfl)
theorem dX0_told_22 : decode cX0_told 22 = .ok (.getfield 64, 3) := dk_180 0 64 (dk_at dksX0_told_1 0 rfl rfl)
theorem dX0_told_25 : decode cX0_told 25 = .ok (.iload_n 1, 1) := dk_27 (dk_at dksX0_told_1 3 rfl rfl)
theorem dX0_told_26 : decode cX0_told 26 = .ok (.iaload, 1) := dk_46 (dk_at dksX0_told_1 4 rfl rfl)
theorem dX0_told_27 : decode cX0_told 27 = .ok (.goto 5, 3) := dk_167 0 5 (dk_at dksX0_told_1 5 rfl rfl)
theorem dX0_told_30 : decode cX0_told 30 = .ok (.bipush (-5), 2) := dk_16 251 (dk_at dksX0_told_1 8 rfl rfl)
theorem dX0_told_32 : decode cX0_told 32 = .ok (.ireturn, 1) := dk_172 (dk_at dksX0_told_1 10 rfl rfl)
abbrev cX0_saying : ByteArray := prog_1_method_31_code
def yX0_saying : MethodName := ⟨RX0, "saying", "(II)I"⟩
def dkwX0_saying_5 : List UInt8 := [46, 172, 42, 180, 0, 57, 180, 1, 74, 27, 46, 172, 42, 180, 0, 57, 180, 1, 77, 27, 46, 172]
abbrev dktX0_saying_5 : List UInt8 := dkwX0_saying_5 ++ []
def dkwX0_saying_4 : List UInt8 := [180, 1, 65, 27, 46, 172, 42, 180, 0, 57, 180, 1, 68, 27, 46, 172, 42, 180, 0, 57, 180, 1, 71, 27]
abbrev dktX0_saying_4 : List UInt8 := dkwX0_saying_4 ++ dktX0_saying_5
def dkwX0_saying_3 : List UInt8 := [42, 180, 0, 57, 180, 1, 59, 27, 46, 172, 42, 180, 0, 57, 180, 1, 62, 27, 46, 172, 42, 180, 0, 57]
abbrev dktX0_saying_3 : List UInt8 := dkwX0_saying_3 ++ dktX0_saying_4
def dkwX0_saying_2 : List UInt8 := [170, 0, 0, 0, 0, 98, 0, 0, 0, 0, 0, 0, 0, 5, 0, 0, 0, 38, 0, 0, 0, 48, 0, 0, 0, 58, 0, 0, 0, 68, 0, 0, 0, 78, 0, 0, 0, 88]
abbrev dktX0_saying_2 : List UInt8 := dkwX0_saying_2 ++ dktX0_saying_3
def dkwX0_saying_1 : List UInt8 := [42, 180, 0, 57, 180, 1, 20, 4, 100, 184, 0, 91, 154, 0, 5, 2, 172, 28]
abbrev dktX0_saying_1 : List UInt8 := dkwX0_saying_1 ++ dktX0_saying_2
def dkwX0_saying_0 : List UInt8 := [28, 3, 16, 6, 184, 0, 91, 154, 0, 5, 2, 172, 42, 180, 1, 4, 154, 0, 6, 16, 251, 172, 27, 3]
abbrev dktX0_saying_0 : List UInt8 := dkwX0_saying_0 ++ dktX0_saying_1
theorem dksX0_saying_0 : cX0_saying.data.toList.drop 0 = dktX0_saying_0 := by decide +kernel
theorem dksX0_saying_1 : cX0_saying.data.toList.drop 24 = dktX0_saying_1 := dk_seg dksX0_saying_0 24 rfl rfl
theorem dksX0_saying_2 : cX0_saying.data.toList.drop 42 = dktX0_saying_2 := dk_seg dksX0_saying_1 18 rfl rfl
theorem dksX0_saying_3 : cX0_saying.data.toList.drop 80 = dktX0_saying_3 := dk_seg dksX0_saying_2 38 rfl rfl
theorem dksX0_saying_4 : cX0_saying.data.toList.drop 104 = dktX0_saying_4 := dk_seg dksX0_saying_3 24 rfl rfl
theorem dksX0_saying_5 : cX0_saying.data.toList.drop 128 = dktX0_saying_5 := dk_seg dksX0_saying_4 24 rfl rfl
theorem dX0_saying_0 : decode cX0_saying 0 = .ok (.iload_n 2, 1) := dk_28 (dk_at dksX0_saying_0 0 rfl rfl)
theorem dX0_saying_1 : decode cX0_saying 1 = .ok (.iconst 0, 1) := dk_3 (dk_at dksX0_saying_0 1 rfl rfl)
theorem dX0_saying_2 : decode cX0_saying 2 = .ok (.bipush 6, 2) := dk_16 6 (dk_at dksX0_saying_0 2 rfl rfl)
theorem dX0_saying_4 : decode cX0_saying 4 = .ok (.invokestatic 91, 3) := dk_184 0 91 (dk_at dksX0_saying_0 4 rfl rfl)
theorem dX0_saying_7 : decode cX0_saying 7 = .ok (.ifCond .ne 5, 3) := dk_154 0 5 (dk_at dksX0_saying_0 7 rfl rfl)
theorem dX0_saying_10 : decode cX0_saying 10 = .ok (.iconst (-1), 1) := dk_2 (dk_at dksX0_saying_0 10 rfl rfl)
theorem dX0_saying_11 : decode cX0_saying 11 = .ok (.ireturn, 1) := dk_172 (dk_at dksX0_saying_0 11 rfl rfl)
theorem dX0_saying_12 : decode cX0_saying 12 = .ok (.aload_n 0, 1) := dk_42 (dk_at dksX0_saying_0 12 rfl rfl)
theorem dX0_saying_13 : decode cX0_saying 13 = .ok (.getfield 260, 3) := dk_180 1 4 (dk_at dksX0_saying_0 13 rfl rfl)
theorem dX0_saying_16 : decode cX0_saying 16 = .ok (.ifCond .ne 6, 3) := dk_154 0 6 (dk_at dksX0_saying_0 16 rfl rfl)
theorem dX0_saying_19 : decode cX0_saying 19 = .ok (.bipush (-5), 2) := dk_16 251 (dk_at dksX0_saying_0 19 rfl rfl)
theorem dX0_saying_21 : decode cX0_saying 21 = .ok (.ireturn, 1) := dk_172 (dk_at dksX0_saying_0 21 rfl rfl)
theorem dX0_saying_22 : decode cX0_saying 22 = .ok (.iload_n 1, 1) := dk_27 (dk_at dksX0_saying_0 22 rfl rfl)
theorem dX0_saying_23 : decode cX0_saying 23 = .ok (.iconst 0, 1) := dk_3 (dk_at dksX0_saying_0 23 rfl rfl)
theorem dX0_saying_24 : decode cX0_saying 24 = .ok (.aload_n 0, 1) := dk_42 (dk_at dksX0_saying_1 0 rfl rfl)
theorem dX0_saying_25 : decode cX0_saying 25 = .ok (.getfield 57, 3) := dk_180 0 57 (dk_at dksX0_saying_1 1 rfl rfl)
theorem dX0_saying_28 : decode cX0_saying 28 = .ok (.getfield 276, 3) := dk_180 1 20 (dk_at dksX0_saying_1 4 rfl rfl)
theorem dX0_saying_31 : decode cX0_saying 31 = .ok (.iconst 1, 1) := dk_4 (dk_at dksX0_saying_1 7 rfl rfl)
theorem dX0_saying_32 : decode cX0_saying 32 = .ok (.isub, 1) := dk_100 (dk_at dksX0_saying_1 8 rfl rfl)
theorem dX0_saying_33 : decode cX0_saying 33 = .ok (.invokestatic 91, 3) := dk_184 0 91 (dk_at dksX0_saying_1 9 rfl rfl)
theorem dX0_saying_36 : decode cX0_saying 36 = .ok (.ifCond .ne 5, 3) := dk_154 0 5 (dk_at dksX0_saying_1 12 rfl rfl)
theorem dX0_saying_39 : decode cX0_saying 39 = .ok (.iconst (-1), 1) := dk_2 (dk_at dksX0_saying_1 15 rfl rfl)
theorem dX0_saying_40 : decode cX0_saying 40 = .ok (.ireturn, 1) := dk_172 (dk_at dksX0_saying_1 16 rfl rfl)
theorem dX0_saying_41 : decode cX0_saying 41 = .ok (.iload_n 2, 1) := dk_28 (dk_at dksX0_saying_1 17 rfl rfl)
theorem dX0_saying_42 : decode cX0_saying 42 = .ok (.tableswitch 98 0 5 #[38, 48, 58, 68, 78, 88], 38) := by decide +kernel
theorem dX0_saying_80 : decode cX0_saying 80 = .ok (.aload_n 0, 1) := dk_42 (dk_at dksX0_saying_3 0 rfl rfl)
theorem dX0_saying_81 : decode cX0_saying 81 = .ok (.getfield 57, 3) := dk_180 0 57 (dk_at dksX0_saying_3 1 rfl rfl)
theorem dX0_saying_84 : decode cX0_saying 84 = .ok (.getfield 315, 3) := dk_180 1 59 (dk_at dksX0_saying_3 4 rfl rfl)
theorem dX0_saying_87 : decode cX0_saying 87 = .ok (.iload_n 1, 1) := dk_27 (dk_at dksX0_saying_3 7 rfl rfl)
theorem dX0_saying_88 : decode cX0_saying 88 = .ok (.iaload, 1) := dk_46 (dk_at dksX0_saying_3 8 rfl rfl)
theorem dX0_saying_89 : decode cX0_saying 89 = .ok (.ireturn, 1) := dk_172 (dk_at dksX0_saying_3 9 rfl rfl)
theorem dX0_saying_90 : decode cX0_saying 90 = .ok (.aload_n 0, 1) := dk_42 (dk_at dksX0_saying_3 10 rfl rfl)
theorem dX0_saying_91 : decode cX0_saying 91 = .ok (.getfield 57, 3) := dk_180 0 57 (dk_at dksX0_saying_3 11 rfl rfl)
theorem dX0_saying_94 : decode cX0_saying 94 = .ok (.getfield 318, 3) := dk_180 1 62 (dk_at dksX0_saying_3 14 rfl rfl)
theorem dX0_saying_97 : decode cX0_saying 97 = .ok (.iload_n 1, 1) := dk_27 (dk_at dksX0_saying_3 17 rfl rfl)
theorem dX0_saying_98 : decode cX0_saying 98 = .ok (.iaload, 1) := dk_46 (dk_at dksX0_saying_3 18 rfl rfl)
theorem dX0_saying_99 : decode cX0_saying 99 = .ok (.ireturn, 1) := dk_172 (dk_at dksX0_saying_3 19 rfl rfl)
theorem dX0_saying_100 : decode cX0_saying 100 = .ok (.aload_n 0, 1) := dk_42 (dk_at dksX0_saying_3 20 rfl rfl)
theorem dX0_saying_101 : decode cX0_saying 101 = .ok (.getfield 57, 3) := dk_180 0 57 (dk_at dksX0_saying_3 21 rfl rfl)
theorem dX0_saying_104 : decode cX0_saying 104 = .ok (.getfield 321, 3) := dk_180 1 65 (dk_at dksX0_saying_4 0 rfl rfl)
theorem dX0_saying_107 : decode cX0_saying 107 = .ok (.iload_n 1, 1) := dk_27 (dk_at dksX0_saying_4 3 rfl rfl)
theorem dX0_saying_108 : decode cX0_saying 108 = .ok (.iaload, 1) := dk_46 (dk_at dksX0_saying_4 4 rfl rfl)
theorem dX0_saying_109 : decode cX0_saying 109 = .ok (.ireturn, 1) := dk_172 (dk_at dksX0_saying_4 5 rfl rfl)
theorem dX0_saying_110 : decode cX0_saying 110 = .ok (.aload_n 0, 1) := dk_42 (dk_at dksX0_saying_4 6 rfl rfl)
theorem dX0_saying_111 : decode cX0_saying 111 = .ok (.getfield 57, 3) := dk_180 0 57 (dk_at dksX0_saying_4 7 rfl rfl)
theorem dX0_saying_114 : decode cX0_saying 114 = .ok (.getfield 324, 3) := dk_180 1 68 (dk_at dksX0_saying_4 10 rfl rfl)
theorem dX0_saying_117 : decode cX0_saying 117 = .ok (.iload_n 1, 1) := dk_27 (dk_at dksX0_saying_4 13 rfl rfl)
theorem dX0_saying_118 : decode cX0_saying 118 = .ok (.iaload, 1) := dk_46 (dk_at dksX0_saying_4 14 rfl rfl)
theorem dX0_saying_119 : decode cX0_saying 119 = .ok (.ireturn, 1) := dk_172 (dk_at dksX0_saying_4 15 rfl rfl)
theorem dX0_saying_120 : decode cX0_saying 120 = .ok (.aload_n 0, 1) := dk_42 (dk_at dksX0_saying_4 16 rfl rfl)
theorem dX0_saying_121 : decode cX0_saying 121 = .ok (.getfield 57, 3) := dk_180 0 57 (dk_at dksX0_saying_4 17 rfl rfl)
theorem dX0_saying_124 : decode cX0_saying 124 = .ok (.getfield 327, 3) := dk_180 1 71 (dk_at dksX0_saying_4 20 rfl rfl)
theorem dX0_saying_127 : decode cX0_saying 127 = .ok (.iload_n 1, 1) := dk_27 (dk_at dksX0_saying_4 23 rfl rfl)
theorem dX0_saying_128 : decode cX0_saying 128 = .ok (.iaload, 1) := dk_46 (dk_at dksX0_saying_5 0 rfl rfl)
theorem dX0_saying_129 : decode cX0_saying 129 = .ok (.ireturn, 1) := dk_172 (dk_at dksX0_saying_5 1 rfl rfl)
theorem dX0_saying_130 : decode cX0_saying 130 = .ok (.aload_n 0, 1) := dk_42 (dk_at dksX0_saying_5 2 rfl rfl)
theorem dX0_saying_131 : decode cX0_saying 131 = .ok (.getfield 57, 3) := dk_180 0 57 (dk_at dksX0_saying_5 3 rfl rfl)
theorem dX0_saying_134 : decode cX0_saying 134 = .ok (.getfield 330, 3) := dk_180 1 74 (dk_at dksX0_saying_5 6 rfl rfl)
theorem dX0_saying_137 : decode cX0_saying 137 = .ok (.iload_n 1, 1) := dk_27 (dk_at dksX0_saying_5 9 rfl rfl)
theorem dX0_saying_138 : decode cX0_saying 138 = .ok (.iaload, 1) := dk_46 (dk_at dksX0_saying_5 10 rfl rfl)
theorem dX0_saying_139 : decode cX0_saying 139 = .ok (.ireturn, 1) := dk_172 (dk_at dksX0_saying_5 11 rfl rfl)
theorem dX0_saying_140 : decode cX0_saying 140 = .ok (.aload_n 0, 1) := dk_42 (dk_at dksX0_saying_5 12 rfl rfl)
theorem dX0_saying_141 : decode cX0_saying 141 = .ok (.getfield 57, 3) := dk_180 0 57 (dk_at dksX0_saying_5 13 rfl rfl)
theorem dX0_saying_144 : decode cX0_saying 144 = .ok (.getfield 333, 3) := dk_180 1 77 (dk_at dksX0_saying_5 16 rfl rfl)
theorem dX0_saying_147 : decode cX0_saying 147 = .ok (.iload_n 1, 1) := dk_27 (dk_at dksX0_saying_5 19 rfl rfl)
theorem dX0_saying_148 : decode cX0_saying 148 = .ok (.iaload, 1) := dk_46 (dk_at dksX0_saying_5 20 rfl rfl)
theorem dX0_saying_149 : decode cX0_saying 149 = .ok (.ireturn, 1) := dk_172 (dk_at dksX0_saying_5 21 rfl rfl)
abbrev cX0_took : ByteArray := prog_1_method_32_code
def yX0_took : MethodName := ⟨RX0, "took", "(II)I"⟩
def dkwX0_took_2 : List UInt8 := [167, 0, 9, 42, 180, 0, 67, 27, 46, 172]
abbrev dktX0_took_2 : List UInt8 := dkwX0_took_2 ++ []
def dkwX0_took_1 : List UInt8 := [184, 0, 91, 154, 0, 6, 18, 145, 172, 28, 154, 0, 15, 42, 180, 0, 57, 180, 1, 80, 27, 46]
abbrev dktX0_took_1 : List UInt8 := dkwX0_took_1 ++ dktX0_took_2
def dkwX0_took_0 : List UInt8 := [42, 180, 1, 4, 153, 0, 26, 27, 3, 42, 180, 1, 11, 4, 100, 184, 0, 91, 153, 0, 12, 28, 3, 4]
abbrev dktX0_took_0 : List UInt8 := dkwX0_took_0 ++ dktX0_took_1
theorem dksX0_took_0 : cX0_took.data.toList.drop 0 = dktX0_took_0 := by decide +kernel
theorem dksX0_took_1 : cX0_took.data.toList.drop 24 = dktX0_took_1 := dk_seg dksX0_took_0 24 rfl rfl
theorem dksX0_took_2 : cX0_took.data.toList.drop 46 = dktX0_took_2 := dk_seg dksX0_took_1 22 rfl rfl
theorem dX0_took_0 : decode cX0_took 0 = .ok (.aload_n 0, 1) := dk_42 (dk_at dksX0_took_0 0 rfl rfl)
theorem dX0_took_1 : decode cX0_took 1 = .ok (.getfield 260, 3) := dk_180 1 4 (dk_at dksX0_took_0 1 rfl rfl)
theorem dX0_took_4 : decode cX0_took 4 = .ok (.ifCond .eq 26, 3) := dk_153 0 26 (dk_at dksX0_took_0 4 rfl rfl)
theorem dX0_took_7 : decode cX0_took 7 = .ok (.iload_n 1, 1) := dk_27 (dk_at dksX0_took_0 7 rfl rfl)
theorem dX0_took_8 : decode cX0_took 8 = .ok (.iconst 0, 1) := dk_3 (dk_at dksX0_took_0 8 rfl rfl)
theorem dX0_took_9 : decode cX0_took 9 = .ok (.aload_n 0, 1) := dk_42 (dk_at dksX0_took_0 9 rfl rfl)
theorem dX0_took_10 : decode cX0_took 10 = .ok (.getfield 267, 3) := dk_180 1 11 (dk_at dksX0_took_0 10 rfl rfl)
theorem dX0_took_13 : decode cX0_took 13 = .ok (.iconst 1, 1) := dk_4 (dk_at dksX0_took_0 13 rfl rfl)
theorem dX0_took_14 : decode cX0_took 14 = .ok (.isub, 1) := dk_100 (dk_at dksX0_took_0 14 rfl rfl)
theorem dX0_took_15 : decode cX0_took 15 = .ok (.invokestatic 91, 3) := dk_184 0 91 (dk_at dksX0_took_0 15 rfl rfl)
theorem dX0_took_18 : decode cX0_took 18 = .ok (.ifCond .eq 12, 3) := dk_153 0 12 (dk_at dksX0_took_0 18 rfl rfl)
theorem dX0_took_21 : decode cX0_took 21 = .ok (.iload_n 2, 1) := dk_28 (dk_at dksX0_took_0 21 rfl rfl)
theorem dX0_took_22 : decode cX0_took 22 = .ok (.iconst 0, 1) := dk_3 (dk_at dksX0_took_0 22 rfl rfl)
theorem dX0_took_23 : decode cX0_took 23 = .ok (.iconst 1, 1) := dk_4 (dk_at dksX0_took_0 23 rfl rfl)
theorem dX0_took_24 : decode cX0_took 24 = .ok (.invokestatic 91, 3) := dk_184 0 91 (dk_at dksX0_took_1 0 rfl rfl)
theorem dX0_took_27 : decode cX0_took 27 = .ok (.ifCond .ne 6, 3) := dk_154 0 6 (dk_at dksX0_took_1 3 rfl rfl)
theorem dX0_took_30 : decode cX0_took 30 = .ok (.ldc 145, 2) := dk_18 145 (dk_at dksX0_took_1 6 rfl rfl)
theorem dX0_took_32 : decode cX0_took 32 = .ok (.ireturn, 1) := dk_172 (dk_at dksX0_took_1 8 rfl rfl)
theorem dX0_took_33 : decode cX0_took 33 = .ok (.iload_n 2, 1) := dk_28 (dk_at dksX0_took_1 9 rfl rfl)
theorem dX0_took_34 : decode cX0_took 34 = .ok (.ifCond .ne 15, 3) := dk_154 0 15 (dk_at dksX0_took_1 10 rfl rfl)
theorem dX0_took_37 : decode cX0_took 37 = .ok (.aload_n 0, 1) := dk_42 (dk_at dksX0_took_1 13 rfl rfl)
theorem dX0_took_38 : decode cX0_took 38 = .ok (.getfield 57, 3) := dk_180 0 57 (dk_at dksX0_took_1 14 rfl rfl)
theorem dX0_took_41 : decode cX0_took 41 = .ok (.getfield 336, 3) := dk_180 1 80 (dk_at dksX0_took_1 17 rfl rfl)
theorem dX0_took_44 : decode cX0_took 44 = .ok (.iload_n 1, 1) := dk_27 (dk_at dksX0_took_1 20 rfl rfl)
theorem dX0_took_45 : decode cX0_took 45 = .ok (.iaload, 1) := dk_46 (dk_at dksX0_took_1 21 rfl rfl)
theorem dX0_took_46 : decode cX0_took 46 = .ok (.goto 9, 3) := dk_167 0 9 (dk_at dksX0_took_2 0 rfl rfl)
theorem dX0_took_49 : decode cX0_took 49 = .ok (.aload_n 0, 1) := dk_42 (dk_at dksX0_took_2 3 rfl rfl)
theorem dX0_took_50 : decode cX0_took 50 = .ok (.getfield 67, 3) := dk_180 0 67 (dk_at dksX0_took_2 4 rfl rfl)
theorem dX0_took_53 : decode cX0_took 53 = .ok (.iload_n 1, 1) := dk_27 (dk_at dksX0_took_2 7 rfl rfl)
theorem dX0_took_54 : decode cX0_took 54 = .ok (.iaload, 1) := dk_46 (dk_at dksX0_took_2 8 rfl rfl)
theorem dX0_took_55 : decode cX0_took 55 = .ok (.ireturn, 1) := dk_172 (dk_at dksX0_took_2 9 rfl rfl)
abbrev cX0_did : ByteArray := prog_1_method_33_code
def yX0_did : MethodName := ⟨RX0, "did", "(II)I"⟩
def dkwX0_did_5 : List UInt8 := [180, 0, 57, 180, 1, 89, 27, 46, 172, 42, 180, 0, 70, 27, 46, 172]
abbrev dktX0_did_5 : List UInt8 := dkwX0_did_5 ++ []
def dkwX0_did_4 : List UInt8 := [27, 46, 104, 42, 180, 0, 57, 180, 1, 17, 108, 172, 42, 180, 0, 57, 180, 1, 86, 27, 46, 172, 42]
abbrev dktX0_did_4 : List UInt8 := dkwX0_did_4 ++ dktX0_did_5
def dkwX0_did_3 : List UInt8 := [42, 180, 0, 57, 180, 1, 17, 154, 0, 7, 3, 167, 0, 24, 17, 3, 232, 42, 180, 0, 57, 180, 1, 83]
abbrev dktX0_did_3 : List UInt8 := dkwX0_did_3 ++ dktX0_did_4
def dkwX0_did_2 : List UInt8 := [170, 0, 0, 0, 0, 82, 0, 0, 0, 0, 0, 0, 0, 2, 0, 0, 0, 26, 0, 0, 0, 62, 0, 0, 0, 72]
abbrev dktX0_did_2 : List UInt8 := dkwX0_did_2 ++ dktX0_did_3
def dkwX0_did_1 : List UInt8 := [180, 1, 8, 4, 100, 184, 0, 91, 154, 0, 5, 2, 172, 28]
abbrev dktX0_did_1 : List UInt8 := dkwX0_did_1 ++ dktX0_did_2
def dkwX0_did_0 : List UInt8 := [28, 3, 6, 184, 0, 91, 154, 0, 5, 2, 172, 42, 180, 1, 4, 154, 0, 6, 16, 251, 172, 27, 3, 42]
abbrev dktX0_did_0 : List UInt8 := dkwX0_did_0 ++ dktX0_did_1
theorem dksX0_did_0 : cX0_did.data.toList.drop 0 = dktX0_did_0 := by decide +kernel
theorem dksX0_did_1 : cX0_did.data.toList.drop 24 = dktX0_did_1 := dk_seg dksX0_did_0 24 rfl rfl
theorem dksX0_did_2 : cX0_did.data.toList.drop 38 = dktX0_did_2 := dk_seg dksX0_did_1 14 rfl rfl
theorem dksX0_did_3 : cX0_did.data.toList.drop 64 = dktX0_did_3 := dk_seg dksX0_did_2 26 rfl rfl
theorem dksX0_did_4 : cX0_did.data.toList.drop 88 = dktX0_did_4 := dk_seg dksX0_did_3 24 rfl rfl
theorem dksX0_did_5 : cX0_did.data.toList.drop 111 = dktX0_did_5 := dk_seg dksX0_did_4 23 rfl rfl
theorem dX0_did_0 : decode cX0_did 0 = .ok (.iload_n 2, 1) := dk_28 (dk_at dksX0_did_0 0 rfl rfl)
theorem dX0_did_1 : decode cX0_did 1 = .ok (.iconst 0, 1) := dk_3 (dk_at dksX0_did_0 1 rfl rfl)
theorem dX0_did_2 : decode cX0_did 2 = .ok (.iconst 3, 1) := dk_6 (dk_at dksX0_did_0 2 rfl rfl)
theorem dX0_did_3 : decode cX0_did 3 = .ok (.invokestatic 91, 3) := dk_184 0 91 (dk_at dksX0_did_0 3 rfl rfl)
theorem dX0_did_6 : decode cX0_did 6 = .ok (.ifCond .ne 5, 3) := dk_154 0 5 (dk_at dksX0_did_0 6 rfl rfl)
theorem dX0_did_9 : decode cX0_did 9 = .ok (.iconst (-1), 1) := dk_2 (dk_at dksX0_did_0 9 rfl rfl)
theorem dX0_did_10 : decode cX0_did 10 = .ok (.ireturn, 1) := dk_172 (dk_at dksX0_did_0 10 rfl rfl)
theorem dX0_did_11 : decode cX0_did 11 = .ok (.aload_n 0, 1) := dk_42 (dk_at dksX0_did_0 11 rfl rfl)
theorem dX0_did_12 : decode cX0_did 12 = .ok (.getfield 260, 3) := dk_180 1 4 (dk_at dksX0_did_0 12 rfl rfl)
theorem dX0_did_15 : decode cX0_did 15 = .ok (.ifCond .ne 6, 3) := dk_154 0 6 (dk_at dksX0_did_0 15 rfl rfl)
theorem dX0_did_18 : decode cX0_did 18 = .ok (.bipush (-5), 2) := dk_16 251 (dk_at dksX0_did_0 18 rfl rfl)
theorem dX0_did_20 : decode cX0_did 20 = .ok (.ireturn, 1) := dk_172 (dk_at dksX0_did_0 20 rfl rfl)
theorem dX0_did_21 : decode cX0_did 21 = .ok (.iload_n 1, 1) := dk_27 (dk_at dksX0_did_0 21 rfl rfl)
theorem dX0_did_22 : decode cX0_did 22 = .ok (.iconst 0, 1) := dk_3 (dk_at dksX0_did_0 22 rfl rfl)
theorem dX0_did_23 : decode cX0_did 23 = .ok (.aload_n 0, 1) := dk_42 (dk_at dksX0_did_0 23 rfl rfl)
theorem dX0_did_24 : decode cX0_did 24 = .ok (.getfield 264, 3) := dk_180 1 8 (dk_at dksX0_did_1 0 rfl rfl)
theorem dX0_did_27 : decode cX0_did 27 = .ok (.iconst 1, 1) := dk_4 (dk_at dksX0_did_1 3 rfl rfl)
theorem dX0_did_28 : decode cX0_did 28 = .ok (.isub, 1) := dk_100 (dk_at dksX0_did_1 4 rfl rfl)
theorem dX0_did_29 : decode cX0_did 29 = .ok (.invokestatic 91, 3) := dk_184 0 91 (dk_at dksX0_did_1 5 rfl rfl)
theorem dX0_did_32 : decode cX0_did 32 = .ok (.ifCond .ne 5, 3) := dk_154 0 5 (dk_at dksX0_did_1 8 rfl rfl)
theorem dX0_did_35 : decode cX0_did 35 = .ok (.iconst (-1), 1) := dk_2 (dk_at dksX0_did_1 11 rfl rfl)
theorem dX0_did_36 : decode cX0_did 36 = .ok (.ireturn, 1) := dk_172 (dk_at dksX0_did_1 12 rfl rfl)
theorem dX0_did_37 : decode cX0_did 37 = .ok (.iload_n 2, 1) := dk_28 (dk_at dksX0_did_1 13 rfl rfl)
theorem dX0_did_38 : decode cX0_did 38 = .ok (.tableswitch 82 0 2 #[26, 62, 72], 26) := by decide +kernel
theorem dX0_did_64 : decode cX0_did 64 = .ok (.aload_n 0, 1) := dk_42 (dk_at dksX0_did_3 0 rfl rfl)
theorem dX0_did_65 : decode cX0_did 65 = .ok (.getfield 57, 3) := dk_180 0 57 (dk_at dksX0_did_3 1 rfl rfl)
theorem dX0_did_68 : decode cX0_did 68 = .ok (.getfield 273, 3) := dk_180 1 17 (dk_at dksX0_did_3 4 rfl rfl)
theorem dX0_did_71 : decode cX0_did 71 = .ok (.ifCond .ne 7, 3) := dk_154 0 7 (dk_at dksX0_did_3 7 rfl rfl)
theorem dX0_did_74 : decode cX0_did 74 = .ok (.iconst 0, 1) := dk_3 (dk_at dksX0_did_3 10 rfl rfl)
theorem dX0_did_75 : decode cX0_did 75 = .ok (.goto 24, 3) := dk_167 0 24 (dk_at dksX0_did_3 11 rfl rfl)
theorem dX0_did_78 : decode cX0_did 78 = .ok (.sipush 1000, 3) := dk_17 3 232 (dk_at dksX0_did_3 14 rfl rfl)
theorem dX0_did_81 : decode cX0_did 81 = .ok (.aload_n 0, 1) := dk_42 (dk_at dksX0_did_3 17 rfl rfl)
theorem dX0_did_82 : decode cX0_did 82 = .ok (.getfield 57, 3) := dk_180 0 57 (dk_at dksX0_did_3 18 rfl rfl)
theorem dX0_did_85 : decode cX0_did 85 = .ok (.getfield 339, 3) := dk_180 1 83 (dk_at dksX0_did_3 21 rfl rfl)
theorem dX0_did_88 : decode cX0_did 88 = .ok (.iload_n 1, 1) := dk_27 (dk_at dksX0_did_4 0 rfl rfl)
theorem dX0_did_89 : decode cX0_did 89 = .ok (.iaload, 1) := dk_46 (dk_at dksX0_did_4 1 rfl rfl)
theorem dX0_did_90 : decode cX0_did 90 = .ok (.imul, 1) := dk_104 (dk_at dksX0_did_4 2 rfl rfl)
theorem dX0_did_91 : decode cX0_did 91 = .ok (.aload_n 0, 1) := dk_42 (dk_at dksX0_did_4 3 rfl rfl)
theorem dX0_did_92 : decode cX0_did 92 = .ok (.getfield 57, 3) := dk_180 0 57 (dk_at dksX0_did_4 4 rfl rfl)
theorem dX0_did_95 : decode cX0_did 95 = .ok (.getfield 273, 3) := dk_180 1 17 (dk_at dksX0_did_4 7 rfl rfl)
theorem dX0_did_98 : decode cX0_did 98 = .ok (.idiv, 1) := dk_108 (dk_at dksX0_did_4 10 rfl rfl)
theorem dX0_did_99 : decode cX0_did 99 = .ok (.ireturn, 1) := dk_172 (dk_at dksX0_did_4 11 rfl rfl)
theorem dX0_did_100 : decode cX0_did 100 = .ok (.aload_n 0, 1) := dk_42 (dk_at dksX0_did_4 12 rfl rfl)
theorem dX0_did_101 : decode cX0_did 101 = .ok (.getfield 57, 3) := dk_180 0 57 (dk_at dksX0_did_4 13 rfl rfl)
theorem dX0_did_104 : decode cX0_did 104 = .ok (.getfield 342, 3) := dk_180 1 86 (dk_at dksX0_did_4 16 rfl rfl)
theorem dX0_did_107 : decode cX0_did 107 = .ok (.iload_n 1, 1) := dk_27 (dk_at dksX0_did_4 19 rfl rfl)
theorem dX0_did_108 : decode cX0_did 108 = .ok (.iaload, 1) := dk_46 (dk_at dksX0_did_4 20 rfl rfl)
theorem dX0_did_109 : decode cX0_did 109 = .ok (.ireturn, 1) := dk_172 (dk_at dksX0_did_4 21 rfl rfl)
theorem dX0_did_110 : decode cX0_did 110 = .ok (.aload_n 0, 1) := dk_42 (dk_at dksX0_did_4 22 rfl rfl)
theorem dX0_did_111 : decode cX0_did 111 = .ok (.getfield 57, 3) := dk_180 0 57 (dk_at dksX0_did_5 0 rfl rfl)
theorem dX0_did_114 : decode cX0_did 114 = .ok (.getfield 345, 3) := dk_180 1 89 (dk_at dksX0_did_5 3 rfl rfl)
theorem dX0_did_117 : decode cX0_did 117 = .ok (.iload_n 1, 1) := dk_27 (dk_at dksX0_did_5 6 rfl rfl)
theorem dX0_did_118 : decode cX0_did 118 = .ok (.iaload, 1) := dk_46 (dk_at dksX0_did_5 7 rfl rfl)
theorem dX0_did_119 : decode cX0_did 119 = .ok (.ireturn, 1) := dk_172 (dk_at dksX0_did_5 8 rfl rfl)
theorem dX0_did_120 : decode cX0_did 120 = .ok (.aload_n 0, 1) := dk_42 (dk_at dksX0_did_5 9 rfl rfl)
theorem dX0_did_121 : decode cX0_did 121 = .ok (.getfield 70, 3) := dk_180 0 70 (dk_at dksX0_did_5 10 rfl rfl)
theorem dX0_did_124 : decode cX0_did 124 = .ok (.iload_n 1, 1) := dk_27 (dk_at dksX0_did_5 13 rfl rfl)
theorem dX0_did_125 : decode cX0_did 125 = .ok (.iaload, 1) := dk_46 (dk_at dksX0_did_5 14 rfl rfl)
theorem dX0_did_126 : decode cX0_did 126 = .ok (.ireturn, 1) := dk_172 (dk_at dksX0_did_5 15 rfl rfl)
abbrev cX0_first : ByteArray := prog_1_method_34_code
def yX0_first : MethodName := ⟨RX0, "first", "(II)I"⟩
def dkwX0_first_2 : List UInt8 := [167, 0, 12, 42, 180, 0, 57, 180, 1, 95, 27, 46, 172]
abbrev dktX0_first_2 : List UInt8 := dkwX0_first_2 ++ []
def dkwX0_first_1 : List UInt8 := [184, 0, 91, 154, 0, 6, 18, 145, 172, 28, 154, 0, 15, 42, 180, 0, 57, 180, 1, 92, 27, 46]
abbrev dktX0_first_1 : List UInt8 := dkwX0_first_1 ++ dktX0_first_2
def dkwX0_first_0 : List UInt8 := [42, 180, 1, 4, 153, 0, 26, 27, 3, 42, 180, 1, 14, 4, 100, 184, 0, 91, 153, 0, 12, 28, 3, 4]
abbrev dktX0_first_0 : List UInt8 := dkwX0_first_0 ++ dktX0_first_1
theorem dksX0_first_0 : cX0_first.data.toList.drop 0 = dktX0_first_0 := by decide +kernel
theorem dksX0_first_1 : cX0_first.data.toList.drop 24 = dktX0_first_1 := dk_seg dksX0_first_0 24 rfl rfl
theorem dksX0_first_2 : cX0_first.data.toList.drop 46 = dktX0_first_2 := dk_seg dksX0_first_1 22 rfl rfl
theorem dX0_first_0 : decode cX0_first 0 = .ok (.aload_n 0, 1) := dk_42 (dk_at dksX0_first_0 0 rfl rfl)
theorem dX0_first_1 : decode cX0_first 1 = .ok (.getfield 260, 3) := dk_180 1 4 (dk_at dksX0_first_0 1 rfl rfl)
theorem dX0_first_4 : decode cX0_first 4 = .ok (.ifCond .eq 26, 3) := dk_153 0 26 (dk_at dksX0_first_0 4 rfl rfl)
theorem dX0_first_7 : decode cX0_first 7 = .ok (.iload_n 1, 1) := dk_27 (dk_at dksX0_first_0 7 rfl rfl)
theorem dX0_first_8 : decode cX0_first 8 = .ok (.iconst 0, 1) := dk_3 (dk_at dksX0_first_0 8 rfl rfl)
theorem dX0_first_9 : decode cX0_first 9 = .ok (.aload_n 0, 1) := dk_42 (dk_at dksX0_first_0 9 rfl rfl)
theorem dX0_first_10 : decode cX0_first 10 = .ok (.getfield 270, 3) := dk_180 1 14 (dk_at dksX0_first_0 10 rfl rfl)
theorem dX0_first_13 : decode cX0_first 13 = .ok (.iconst 1, 1) := dk_4 (dk_at dksX0_first_0 13 rfl rfl)
theorem dX0_first_14 : decode cX0_first 14 = .ok (.isub, 1) := dk_100 (dk_at dksX0_first_0 14 rfl rfl)
theorem dX0_first_15 : decode cX0_first 15 = .ok (.invokestatic 91, 3) := dk_184 0 91 (dk_at dksX0_first_0 15 rfl rfl)
theorem dX0_first_18 : decode cX0_first 18 = .ok (.ifCond .eq 12, 3) := dk_153 0 12 (dk_at dksX0_first_0 18 rfl rfl)
theorem dX0_first_21 : decode cX0_first 21 = .ok (.iload_n 2, 1) := dk_28 (dk_at dksX0_first_0 21 rfl rfl)
theorem dX0_first_22 : decode cX0_first 22 = .ok (.iconst 0, 1) := dk_3 (dk_at dksX0_first_0 22 rfl rfl)
theorem dX0_first_23 : decode cX0_first 23 = .ok (.iconst 1, 1) := dk_4 (dk_at dksX0_first_0 23 rfl rfl)
theorem dX0_first_24 : decode cX0_first 24 = .ok (.invokestatic 91, 3) := dk_184 0 91 (dk_at dksX0_first_1 0 rfl rfl)
theorem dX0_first_27 : decode cX0_first 27 = .ok (.ifCond .ne 6, 3) := dk_154 0 6 (dk_at dksX0_first_1 3 rfl rfl)
theorem dX0_first_30 : decode cX0_first 30 = .ok (.ldc 145, 2) := dk_18 145 (dk_at dksX0_first_1 6 rfl rfl)
theorem dX0_first_32 : decode cX0_first 32 = .ok (.ireturn, 1) := dk_172 (dk_at dksX0_first_1 8 rfl rfl)
theorem dX0_first_33 : decode cX0_first 33 = .ok (.iload_n 2, 1) := dk_28 (dk_at dksX0_first_1 9 rfl rfl)
theorem dX0_first_34 : decode cX0_first 34 = .ok (.ifCond .ne 15, 3) := dk_154 0 15 (dk_at dksX0_first_1 10 rfl rfl)
theorem dX0_first_37 : decode cX0_first 37 = .ok (.aload_n 0, 1) := dk_42 (dk_at dksX0_first_1 13 rfl rfl)
theorem dX0_first_38 : decode cX0_first 38 = .ok (.getfield 57, 3) := dk_180 0 57 (dk_at dksX0_first_1 14 rfl rfl)
theorem dX0_first_41 : decode cX0_first 41 = .ok (.getfield 348, 3) := dk_180 1 92 (dk_at dksX0_first_1 17 rfl rfl)
theorem dX0_first_44 : decode cX0_first 44 = .ok (.iload_n 1, 1) := dk_27 (dk_at dksX0_first_1 20 rfl rfl)
theorem dX0_first_45 : decode cX0_first 45 = .ok (.iaload, 1) := dk_46 (dk_at dksX0_first_1 21 rfl rfl)
theorem dX0_first_46 : decode cX0_first 46 = .ok (.goto 12, 3) := dk_167 0 12 (dk_at dksX0_first_2 0 rfl rfl)
theorem dX0_first_49 : decode cX0_first 49 = .ok (.aload_n 0, 1) := dk_42 (dk_at dksX0_first_2 3 rfl rfl)
theorem dX0_first_50 : decode cX0_first 50 = .ok (.getfield 57, 3) := dk_180 0 57 (dk_at dksX0_first_2 4 rfl rfl)
theorem dX0_first_53 : decode cX0_first 53 = .ok (.getfield 351, 3) := dk_180 1 95 (dk_at dksX0_first_2 7 rfl rfl)
theorem dX0_first_56 : decode cX0_first 56 = .ok (.iload_n 1, 1) := dk_27 (dk_at dksX0_first_2 10 rfl rfl)
theorem dX0_first_57 : decode cX0_first 57 = .ok (.iaload, 1) := dk_46 (dk_at dksX0_first_2 11 rfl rfl)
theorem dX0_first_58 : decode cX0_first 58 = .ok (.ireturn, 1) := dk_172 (dk_at dksX0_first_2 12 rfl rfl)
abbrev cX0_rule : ByteArray := prog_1_method_37_code
def yX0_rule : MethodName := ⟨RX0, "rule", "(I)I"⟩
def dkwX0_rule_3 : List UInt8 := [172]
abbrev dktX0_rule_3 : List UInt8 := dkwX0_rule_3 ++ []
def dkwX0_rule_2 : List UInt8 := [42, 180, 0, 27, 2, 182, 1, 0, 42, 28, 182, 1, 107, 132, 2, 1, 167, 255, 226, 42, 27, 182, 1, 111]
abbrev dktX0_rule_2 : List UInt8 := dkwX0_rule_2 ++ dktX0_rule_3
def dkwX0_rule_1 : List UInt8 := [182, 0, 246, 42, 2, 181, 1, 98, 3, 61, 28, 8, 163, 0, 31, 42, 180, 0, 61, 42, 180, 0, 48, 28]
abbrev dktX0_rule_1 : List UInt8 := dkwX0_rule_1 ++ dktX0_rule_2
def dkwX0_rule_0 : List UInt8 := [27, 3, 5, 184, 0, 91, 154, 0, 5, 2, 172, 42, 182, 0, 252, 153, 0, 6, 16, 251, 172, 42]
abbrev dktX0_rule_0 : List UInt8 := dkwX0_rule_0 ++ dktX0_rule_1
theorem dksX0_rule_0 : cX0_rule.data.toList.drop 0 = dktX0_rule_0 := by decide +kernel
theorem dksX0_rule_1 : cX0_rule.data.toList.drop 22 = dktX0_rule_1 := dk_seg dksX0_rule_0 22 rfl rfl
theorem dksX0_rule_2 : cX0_rule.data.toList.drop 46 = dktX0_rule_2 := dk_seg dksX0_rule_1 24 rfl rfl
theorem dksX0_rule_3 : cX0_rule.data.toList.drop 70 = dktX0_rule_3 := dk_seg dksX0_rule_2 24 rfl rfl
theorem dX0_rule_0 : decode cX0_rule 0 = .ok (.iload_n 1, 1) := dk_27 (dk_at dksX0_rule_0 0 rfl rfl)
theorem dX0_rule_1 : decode cX0_rule 1 = .ok (.iconst 0, 1) := dk_3 (dk_at dksX0_rule_0 1 rfl rfl)
theorem dX0_rule_2 : decode cX0_rule 2 = .ok (.iconst 2, 1) := dk_5 (dk_at dksX0_rule_0 2 rfl rfl)
theorem dX0_rule_3 : decode cX0_rule 3 = .ok (.invokestatic 91, 3) := dk_184 0 91 (dk_at dksX0_rule_0 3 rfl rfl)
theorem dX0_rule_6 : decode cX0_rule 6 = .ok (.ifCond .ne 5, 3) := dk_154 0 5 (dk_at dksX0_rule_0 6 rfl rfl)
theorem dX0_rule_9 : decode cX0_rule 9 = .ok (.iconst (-1), 1) := dk_2 (dk_at dksX0_rule_0 9 rfl rfl)
theorem dX0_rule_10 : decode cX0_rule 10 = .ok (.ireturn, 1) := dk_172 (dk_at dksX0_rule_0 10 rfl rfl)
theorem dX0_rule_11 : decode cX0_rule 11 = .ok (.aload_n 0, 1) := dk_42 (dk_at dksX0_rule_0 11 rfl rfl)
theorem dX0_rule_12 : decode cX0_rule 12 = .ok (.invokevirtual 252, 3) := dk_182 0 252 (dk_at dksX0_rule_0 12 rfl rfl)
theorem dX0_rule_15 : decode cX0_rule 15 = .ok (.ifCond .eq 6, 3) := dk_153 0 6 (dk_at dksX0_rule_0 15 rfl rfl)
theorem dX0_rule_18 : decode cX0_rule 18 = .ok (.bipush (-5), 2) := dk_16 251 (dk_at dksX0_rule_0 18 rfl rfl)
theorem dX0_rule_20 : decode cX0_rule 20 = .ok (.ireturn, 1) := dk_172 (dk_at dksX0_rule_0 20 rfl rfl)
theorem dX0_rule_21 : decode cX0_rule 21 = .ok (.aload_n 0, 1) := dk_42 (dk_at dksX0_rule_0 21 rfl rfl)
theorem dX0_rule_22 : decode cX0_rule 22 = .ok (.invokevirtual 246, 3) := dk_182 0 246 (dk_at dksX0_rule_1 0 rfl rfl)
theorem dX0_rule_25 : decode cX0_rule 25 = .ok (.aload_n 0, 1) := dk_42 (dk_at dksX0_rule_1 3 rfl rfl)
theorem dX0_rule_26 : decode cX0_rule 26 = .ok (.iconst (-1), 1) := dk_2 (dk_at dksX0_rule_1 4 rfl rfl)
theorem dX0_rule_27 : decode cX0_rule 27 = .ok (.putfield 354, 3) := dk_181 1 98 (dk_at dksX0_rule_1 5 rfl rfl)
theorem dX0_rule_30 : decode cX0_rule 30 = .ok (.iconst 0, 1) := dk_3 (dk_at dksX0_rule_1 8 rfl rfl)
theorem dX0_rule_31 : decode cX0_rule 31 = .ok (.istore_n 2, 1) := dk_61 (dk_at dksX0_rule_1 9 rfl rfl)
theorem dX0_rule_32 : decode cX0_rule 32 = .ok (.iload_n 2, 1) := dk_28 (dk_at dksX0_rule_1 10 rfl rfl)
theorem dX0_rule_33 : decode cX0_rule 33 = .ok (.iconst 5, 1) := dk_8 (dk_at dksX0_rule_1 11 rfl rfl)
theorem dX0_rule_34 : decode cX0_rule 34 = .ok (.if_icmp .gt 31, 3) := dk_163 0 31 (dk_at dksX0_rule_1 12 rfl rfl)
theorem dX0_rule_37 : decode cX0_rule 37 = .ok (.aload_n 0, 1) := dk_42 (dk_at dksX0_rule_1 15 rfl rfl)
theorem dX0_rule_38 : decode cX0_rule 38 = .ok (.getfield 61, 3) := dk_180 0 61 (dk_at dksX0_rule_1 16 rfl rfl)
theorem dX0_rule_41 : decode cX0_rule 41 = .ok (.aload_n 0, 1) := dk_42 (dk_at dksX0_rule_1 19 rfl rfl)
theorem dX0_rule_42 : decode cX0_rule 42 = .ok (.getfield 48, 3) := dk_180 0 48 (dk_at dksX0_rule_1 20 rfl rfl)
theorem dX0_rule_45 : decode cX0_rule 45 = .ok (.iload_n 2, 1) := dk_28 (dk_at dksX0_rule_1 23 rfl rfl)
theorem dX0_rule_46 : decode cX0_rule 46 = .ok (.aload_n 0, 1) := dk_42 (dk_at dksX0_rule_2 0 rfl rfl)
theorem dX0_rule_47 : decode cX0_rule 47 = .ok (.getfield 27, 3) := dk_180 0 27 (dk_at dksX0_rule_2 1 rfl rfl)
theorem dX0_rule_50 : decode cX0_rule 50 = .ok (.iconst (-1), 1) := dk_2 (dk_at dksX0_rule_2 4 rfl rfl)
theorem dX0_rule_51 : decode cX0_rule 51 = .ok (.invokevirtual 256, 3) := dk_182 1 0 (dk_at dksX0_rule_2 5 rfl rfl)
theorem dX0_rule_54 : decode cX0_rule 54 = .ok (.aload_n 0, 1) := dk_42 (dk_at dksX0_rule_2 8 rfl rfl)
theorem dX0_rule_55 : decode cX0_rule 55 = .ok (.iload_n 2, 1) := dk_28 (dk_at dksX0_rule_2 9 rfl rfl)
theorem dX0_rule_56 : decode cX0_rule 56 = .ok (.invokevirtual 363, 3) := dk_182 1 107 (dk_at dksX0_rule_2 10 rfl rfl)
theorem dX0_rule_59 : decode cX0_rule 59 = .ok (.iinc 2 1, 3) := dk_132 2 1 (dk_at dksX0_rule_2 13 rfl rfl)
theorem dX0_rule_62 : decode cX0_rule 62 = .ok (.goto (-30), 3) := dk_167 255 226 (dk_at dksX0_rule_2 16 rfl rfl)
theorem dX0_rule_65 : decode cX0_rule 65 = .ok (.aload_n 0, 1) := dk_42 (dk_at dksX0_rule_2 19 rfl rfl)
theorem dX0_rule_66 : decode cX0_rule 66 = .ok (.iload_n 1, 1) := dk_27 (dk_at dksX0_rule_2 20 rfl rfl)
theorem dX0_rule_67 : decode cX0_rule 67 = .ok (.invokevirtual 367, 3) := dk_182 1 111 (dk_at dksX0_rule_2 21 rfl rfl)
theorem dX0_rule_70 : decode cX0_rule 70 = .ok (.ireturn, 1) := dk_172 (dk_at dksX0_rule_3 0 rfl rfl)
abbrev cX0_look : ByteArray := prog_1_method_35_code
def yX0_look : MethodName := ⟨RX0, "look", "(I)V"⟩
def dkwX0_look_2 : List UInt8 := [42, 180, 1, 104, 161, 0, 4, 177, 42, 27, 181, 1, 98, 42, 28, 181, 1, 101, 42, 29, 181, 1, 104, 177]
abbrev dktX0_look_2 : List UInt8 := dkwX0_look_2 ++ []
def dkwX0_look_1 : List UInt8 := [42, 180, 1, 98, 155, 0, 28, 28, 42, 180, 1, 101, 163, 0, 19, 28, 42, 180, 1, 101, 160, 0, 12, 29]
abbrev dktX0_look_1 : List UInt8 := dkwX0_look_1 ++ dktX0_look_2
def dkwX0_look_0 : List UInt8 := [42, 180, 0, 61, 182, 1, 23, 42, 182, 1, 29, 130, 184, 1, 54, 61, 42, 180, 0, 61, 182, 1, 39, 62]
abbrev dktX0_look_0 : List UInt8 := dkwX0_look_0 ++ dktX0_look_1
theorem dksX0_look_0 : cX0_look.data.toList.drop 0 = dktX0_look_0 := by decide +kernel
theorem dksX0_look_1 : cX0_look.data.toList.drop 24 = dktX0_look_1 := dk_seg dksX0_look_0 24 rfl rfl
theorem dksX0_look_2 : cX0_look.data.toList.drop 48 = dktX0_look_2 := dk_seg dksX0_look_1 24 rfl rfl
theorem dX0_look_0 : decode cX0_look 0 = .ok (.aload_n 0, 1) := dk_42 (dk_at dksX0_look_0 0 rfl rfl)
theorem dX0_look_1 : decode cX0_look 1 = .ok (.getfield 61, 3) := dk_180 0 61 (dk_at dksX0_look_0 1 rfl rfl)
theorem dX0_look_4 : decode cX0_look 4 = .ok (.invokevirtual 279, 3) := dk_182 1 23 (dk_at dksX0_look_0 4 rfl rfl)
theorem dX0_look_7 : decode cX0_look 7 = .ok (.aload_n 0, 1) := dk_42 (dk_at dksX0_look_0 7 rfl rfl)
theorem dX0_look_8 : decode cX0_look 8 = .ok (.invokevirtual 285, 3) := dk_182 1 29 (dk_at dksX0_look_0 8 rfl rfl)
theorem dX0_look_11 : decode cX0_look 11 = .ok (.ixor, 1) := dk_130 (dk_at dksX0_look_0 11 rfl rfl)
theorem dX0_look_12 : decode cX0_look 12 = .ok (.invokestatic 310, 3) := dk_184 1 54 (dk_at dksX0_look_0 12 rfl rfl)
theorem dX0_look_15 : decode cX0_look 15 = .ok (.istore_n 2, 1) := dk_61 (dk_at dksX0_look_0 15 rfl rfl)
theorem dX0_look_16 : decode cX0_look 16 = .ok (.aload_n 0, 1) := dk_42 (dk_at dksX0_look_0 16 rfl rfl)
theorem dX0_look_17 : decode cX0_look 17 = .ok (.getfield 61, 3) := dk_180 0 61 (dk_at dksX0_look_0 17 rfl rfl)
theorem dX0_look_20 : decode cX0_look 20 = .ok (.invokevirtual 295, 3) := dk_182 1 39 (dk_at dksX0_look_0 20 rfl rfl)
theorem dX0_look_23 : decode cX0_look 23 = .ok (.istore_n 3, 1) := dk_62 (dk_at dksX0_look_0 23 rfl rfl)
theorem dX0_look_24 : decode cX0_look 24 = .ok (.aload_n 0, 1) := dk_42 (dk_at dksX0_look_1 0 rfl rfl)
theorem dX0_look_25 : decode cX0_look 25 = .ok (.getfield 354, 3) := dk_180 1 98 (dk_at dksX0_look_1 1 rfl rfl)
theorem dX0_look_28 : decode cX0_look 28 = .ok (.ifCond .lt 28, 3) := dk_155 0 28 (dk_at dksX0_look_1 4 rfl rfl)
theorem dX0_look_31 : decode cX0_look 31 = .ok (.iload_n 2, 1) := dk_28 (dk_at dksX0_look_1 7 rfl rfl)
theorem dX0_look_32 : decode cX0_look 32 = .ok (.aload_n 0, 1) := dk_42 (dk_at dksX0_look_1 8 rfl rfl)
theorem dX0_look_33 : decode cX0_look 33 = .ok (.getfield 357, 3) := dk_180 1 101 (dk_at dksX0_look_1 9 rfl rfl)
theorem dX0_look_36 : decode cX0_look 36 = .ok (.if_icmp .gt 19, 3) := dk_163 0 19 (dk_at dksX0_look_1 12 rfl rfl)
theorem dX0_look_39 : decode cX0_look 39 = .ok (.iload_n 2, 1) := dk_28 (dk_at dksX0_look_1 15 rfl rfl)
theorem dX0_look_40 : decode cX0_look 40 = .ok (.aload_n 0, 1) := dk_42 (dk_at dksX0_look_1 16 rfl rfl)
theorem dX0_look_41 : decode cX0_look 41 = .ok (.getfield 357, 3) := dk_180 1 101 (dk_at dksX0_look_1 17 rfl rfl)
theorem dX0_look_44 : decode cX0_look 44 = .ok (.if_icmp .ne 12, 3) := dk_160 0 12 (dk_at dksX0_look_1 20 rfl rfl)
theorem dX0_look_47 : decode cX0_look 47 = .ok (.iload_n 3, 1) := dk_29 (dk_at dksX0_look_1 23 rfl rfl)
theorem dX0_look_48 : decode cX0_look 48 = .ok (.aload_n 0, 1) := dk_42 (dk_at dksX0_look_2 0 rfl rfl)
theorem dX0_look_49 : decode cX0_look 49 = .ok (.getfield 360, 3) := dk_180 1 104 (dk_at dksX0_look_2 1 rfl rfl)
theorem dX0_look_52 : decode cX0_look 52 = .ok (.if_icmp .lt 4, 3) := dk_161 0 4 (dk_at dksX0_look_2 4 rfl rfl)
theorem dX0_look_55 : decode cX0_look 55 = .ok (.return_, 1) := dk_177 (dk_at dksX0_look_2 7 rfl rfl)
theorem dX0_look_56 : decode cX0_look 56 = .ok (.aload_n 0, 1) := dk_42 (dk_at dksX0_look_2 8 rfl rfl)
theorem dX0_look_57 : decode cX0_look 57 = .ok (.iload_n 1, 1) := dk_27 (dk_at dksX0_look_2 9 rfl rfl)
theorem dX0_look_58 : decode cX0_look 58 = .ok (.putfield 354, 3) := dk_181 1 98 (dk_at dksX0_look_2 10 rfl rfl)
theorem dX0_look_61 : decode cX0_look 61 = .ok (.aload_n 0, 1) := dk_42 (dk_at dksX0_look_2 13 rfl rfl)
theorem dX0_look_62 : decode cX0_look 62 = .ok (.iload_n 2, 1) := dk_28 (dk_at dksX0_look_2 14 rfl rfl)
theorem dX0_look_63 : decode cX0_look 63 = .ok (.putfield 357, 3) := dk_181 1 101 (dk_at dksX0_look_2 15 rfl rfl)
theorem dX0_look_66 : decode cX0_look 66 = .ok (.aload_n 0, 1) := dk_42 (dk_at dksX0_look_2 18 rfl rfl)
theorem dX0_look_67 : decode cX0_look 67 = .ok (.iload_n 3, 1) := dk_29 (dk_at dksX0_look_2 19 rfl rfl)
theorem dX0_look_68 : decode cX0_look 68 = .ok (.putfield 360, 3) := dk_181 1 104 (dk_at dksX0_look_2 20 rfl rfl)
theorem dX0_look_71 : decode cX0_look 71 = .ok (.return_, 1) := dk_177 (dk_at dksX0_look_2 23 rfl rfl)
abbrev cX0_best : ByteArray := prog_1_method_36_code
def yX0_best : MethodName := ⟨RX0, "best", "(I)I"⟩
def dkwX0_best_1 : List UInt8 := [180, 1, 104, 172]
abbrev dktX0_best_1 : List UInt8 := dkwX0_best_1 ++ []
def dkwX0_best_0 : List UInt8 := [27, 154, 0, 10, 42, 180, 1, 98, 167, 0, 19, 27, 4, 160, 0, 10, 42, 180, 1, 101, 167, 0, 7, 42]
abbrev dktX0_best_0 : List UInt8 := dkwX0_best_0 ++ dktX0_best_1
theorem dksX0_best_0 : cX0_best.data.toList.drop 0 = dktX0_best_0 := by decide +kernel
theorem dksX0_best_1 : cX0_best.data.toList.drop 24 = dktX0_best_1 := dk_seg dksX0_best_0 24 rfl rfl
theorem dX0_best_0 : decode cX0_best 0 = .ok (.iload_n 1, 1) := dk_27 (dk_at dksX0_best_0 0 rfl rfl)
theorem dX0_best_1 : decode cX0_best 1 = .ok (.ifCond .ne 10, 3) := dk_154 0 10 (dk_at dksX0_best_0 1 rfl rfl)
theorem dX0_best_4 : decode cX0_best 4 = .ok (.aload_n 0, 1) := dk_42 (dk_at dksX0_best_0 4 rfl rfl)
theorem dX0_best_5 : decode cX0_best 5 = .ok (.getfield 354, 3) := dk_180 1 98 (dk_at dksX0_best_0 5 rfl rfl)
theorem dX0_best_8 : decode cX0_best 8 = .ok (.goto 19, 3) := dk_167 0 19 (dk_at dksX0_best_0 8 rfl rfl)
theorem dX0_best_11 : decode cX0_best 11 = .ok (.iload_n 1, 1) := dk_27 (dk_at dksX0_best_0 11 rfl rfl)
theorem dX0_best_12 : decode cX0_best 12 = .ok (.iconst 1, 1) := dk_4 (dk_at dksX0_best_0 12 rfl rfl)
theorem dX0_best_13 : decode cX0_best 13 = .ok (.if_icmp .ne 10, 3) := dk_160 0 10 (dk_at dksX0_best_0 13 rfl rfl)
theorem dX0_best_16 : decode cX0_best 16 = .ok (.aload_n 0, 1) := dk_42 (dk_at dksX0_best_0 16 rfl rfl)
theorem dX0_best_17 : decode cX0_best 17 = .ok (.getfield 357, 3) := dk_180 1 101 (dk_at dksX0_best_0 17 rfl rfl)
theorem dX0_best_20 : decode cX0_best 20 = .ok (.goto 7, 3) := dk_167 0 7 (dk_at dksX0_best_0 20 rfl rfl)
theorem dX0_best_23 : decode cX0_best 23 = .ok (.aload_n 0, 1) := dk_42 (dk_at dksX0_best_0 23 rfl rfl)
theorem dX0_best_24 : decode cX0_best 24 = .ok (.getfield 360, 3) := dk_180 1 104 (dk_at dksX0_best_1 0 rfl rfl)
theorem dX0_best_27 : decode cX0_best 27 = .ok (.ireturn, 1) := dk_172 (dk_at dksX0_best_1 3 rfl rfl)
abbrev cX0_order : ByteArray := prog_1_method_39_code
def yX0_order : MethodName := ⟨RX0, "order", "(I)I"⟩
def dkwX0_order_1 : List UInt8 := [164, 0, 6, 16, 251, 172, 42, 2, 181, 1, 98, 42, 3, 3, 3, 182, 1, 114, 42, 27, 182, 1, 111, 172]
abbrev dktX0_order_1 : List UInt8 := dkwX0_order_1 ++ []
def dkwX0_order_0 : List UInt8 := [27, 3, 5, 184, 0, 91, 154, 0, 5, 2, 172, 42, 182, 0, 252, 154, 0, 11, 42, 180, 0, 95, 8]
abbrev dktX0_order_0 : List UInt8 := dkwX0_order_0 ++ dktX0_order_1
theorem dksX0_order_0 : cX0_order.data.toList.drop 0 = dktX0_order_0 := by decide +kernel
theorem dksX0_order_1 : cX0_order.data.toList.drop 23 = dktX0_order_1 := dk_seg dksX0_order_0 23 rfl rfl
theorem dX0_order_0 : decode cX0_order 0 = .ok (.iload_n 1, 1) := dk_27 (dk_at dksX0_order_0 0 rfl rfl)
theorem dX0_order_1 : decode cX0_order 1 = .ok (.iconst 0, 1) := dk_3 (dk_at dksX0_order_0 1 rfl rfl)
theorem dX0_order_2 : decode cX0_order 2 = .ok (.iconst 2, 1) := dk_5 (dk_at dksX0_order_0 2 rfl rfl)
theorem dX0_order_3 : decode cX0_order 3 = .ok (.invokestatic 91, 3) := dk_184 0 91 (dk_at dksX0_order_0 3 rfl rfl)
theorem dX0_order_6 : decode cX0_order 6 = .ok (.ifCond .ne 5, 3) := dk_154 0 5 (dk_at dksX0_order_0 6 rfl rfl)
theorem dX0_order_9 : decode cX0_order 9 = .ok (.iconst (-1), 1) := dk_2 (dk_at dksX0_order_0 9 rfl rfl)
theorem dX0_order_10 : decode cX0_order 10 = .ok (.ireturn, 1) := dk_172 (dk_at dksX0_order_0 10 rfl rfl)
theorem dX0_order_11 : decode cX0_order 11 = .ok (.aload_n 0, 1) := dk_42 (dk_at dksX0_order_0 11 rfl rfl)
theorem dX0_order_12 : decode cX0_order 12 = .ok (.invokevirtual 252, 3) := dk_182 0 252 (dk_at dksX0_order_0 12 rfl rfl)
theorem dX0_order_15 : decode cX0_order 15 = .ok (.ifCond .ne 11, 3) := dk_154 0 11 (dk_at dksX0_order_0 15 rfl rfl)
theorem dX0_order_18 : decode cX0_order 18 = .ok (.aload_n 0, 1) := dk_42 (dk_at dksX0_order_0 18 rfl rfl)
theorem dX0_order_19 : decode cX0_order 19 = .ok (.getfield 95, 3) := dk_180 0 95 (dk_at dksX0_order_0 19 rfl rfl)
theorem dX0_order_22 : decode cX0_order 22 = .ok (.iconst 5, 1) := dk_8 (dk_at dksX0_order_0 22 rfl rfl)
theorem dX0_order_23 : decode cX0_order 23 = .ok (.if_icmp .le 6, 3) := dk_164 0 6 (dk_at dksX0_order_1 0 rfl rfl)
theorem dX0_order_26 : decode cX0_order 26 = .ok (.bipush (-5), 2) := dk_16 251 (dk_at dksX0_order_1 3 rfl rfl)
theorem dX0_order_28 : decode cX0_order 28 = .ok (.ireturn, 1) := dk_172 (dk_at dksX0_order_1 5 rfl rfl)
theorem dX0_order_29 : decode cX0_order 29 = .ok (.aload_n 0, 1) := dk_42 (dk_at dksX0_order_1 6 rfl rfl)
theorem dX0_order_30 : decode cX0_order 30 = .ok (.iconst (-1), 1) := dk_2 (dk_at dksX0_order_1 7 rfl rfl)
theorem dX0_order_31 : decode cX0_order 31 = .ok (.putfield 354, 3) := dk_181 1 98 (dk_at dksX0_order_1 8 rfl rfl)
theorem dX0_order_34 : decode cX0_order 34 = .ok (.aload_n 0, 1) := dk_42 (dk_at dksX0_order_1 11 rfl rfl)
theorem dX0_order_35 : decode cX0_order 35 = .ok (.iconst 0, 1) := dk_3 (dk_at dksX0_order_1 12 rfl rfl)
theorem dX0_order_36 : decode cX0_order 36 = .ok (.iconst 0, 1) := dk_3 (dk_at dksX0_order_1 13 rfl rfl)
theorem dX0_order_37 : decode cX0_order 37 = .ok (.iconst 0, 1) := dk_3 (dk_at dksX0_order_1 14 rfl rfl)
theorem dX0_order_38 : decode cX0_order 38 = .ok (.invokevirtual 370, 3) := dk_182 1 114 (dk_at dksX0_order_1 15 rfl rfl)
theorem dX0_order_41 : decode cX0_order 41 = .ok (.aload_n 0, 1) := dk_42 (dk_at dksX0_order_1 18 rfl rfl)
theorem dX0_order_42 : decode cX0_order 42 = .ok (.iload_n 1, 1) := dk_27 (dk_at dksX0_order_1 19 rfl rfl)
theorem dX0_order_43 : decode cX0_order 43 = .ok (.invokevirtual 367, 3) := dk_182 1 111 (dk_at dksX0_order_1 20 rfl rfl)
theorem dX0_order_46 : decode cX0_order 46 = .ok (.ireturn, 1) := dk_172 (dk_at dksX0_order_1 23 rfl rfl)
abbrev cX0_tryOrders : ByteArray := prog_1_method_38_code
def yX0_tryOrders : MethodName := ⟨RX0, "tryOrders", "(III)V"⟩
def dkwX0_tryOrders_4 : List UInt8 := [177]
abbrev dktX0_tryOrders_4 : List UInt8 := dkwX0_tryOrders_4 ++ []
def dkwX0_tryOrders_3 : List UInt8 := [28, 4, 21, 4, 120, 128, 16, 10, 29, 104, 21, 4, 96, 4, 96, 182, 1, 114, 132, 4, 1, 167, 255, 201]
abbrev dktX0_tryOrders_3 : List UInt8 := dkwX0_tryOrders_3 ++ dktX0_tryOrders_4
def dkwX0_tryOrders_2 : List UInt8 := [21, 4, 122, 4, 126, 4, 160, 0, 6, 167, 0, 33, 42, 180, 0, 48, 27, 21, 4, 79, 42, 27, 4, 96]
abbrev dktX0_tryOrders_2 : List UInt8 := dkwX0_tryOrders_2 ++ dktX0_tryOrders_3
def dkwX0_tryOrders_1 : List UInt8 := [2, 182, 1, 0, 42, 29, 182, 1, 107, 177, 3, 54, 4, 21, 4, 42, 180, 0, 95, 162, 0, 52, 28]
abbrev dktX0_tryOrders_1 : List UInt8 := dkwX0_tryOrders_1 ++ dktX0_tryOrders_2
def dkwX0_tryOrders_0 : List UInt8 := [27, 42, 180, 0, 95, 160, 0, 29, 42, 180, 0, 61, 42, 180, 0, 48, 42, 180, 0, 136, 42, 180, 0, 27]
abbrev dktX0_tryOrders_0 : List UInt8 := dkwX0_tryOrders_0 ++ dktX0_tryOrders_1
theorem dksX0_tryOrders_0 : cX0_tryOrders.data.toList.drop 0 = dktX0_tryOrders_0 := by decide +kernel
theorem dksX0_tryOrders_1 : cX0_tryOrders.data.toList.drop 24 = dktX0_tryOrders_1 := dk_seg dksX0_tryOrders_0 24 rfl rfl
theorem dksX0_tryOrders_2 : cX0_tryOrders.data.toList.drop 47 = dktX0_tryOrders_2 := dk_seg dksX0_tryOrders_1 23 rfl rfl
theorem dksX0_tryOrders_3 : cX0_tryOrders.data.toList.drop 71 = dktX0_tryOrders_3 := dk_seg dksX0_tryOrders_2 24 rfl rfl
theorem dksX0_tryOrders_4 : cX0_tryOrders.data.toList.drop 95 = dktX0_tryOrders_4 := dk_seg dksX0_tryOrders_3 24 rfl rfl
theorem dX0_tryOrders_0 : decode cX0_tryOrders 0 = .ok (.iload_n 1, 1) := dk_27 (dk_at dksX0_tryOrders_0 0 rfl rfl)
theorem dX0_tryOrders_1 : decode cX0_tryOrders 1 = .ok (.aload_n 0, 1) := dk_42 (dk_at dksX0_tryOrders_0 1 rfl rfl)
theorem dX0_tryOrders_2 : decode cX0_tryOrders 2 = .ok (.getfield 95, 3) := dk_180 0 95 (dk_at dksX0_tryOrders_0 2 rfl rfl)
theorem dX0_tryOrders_5 : decode cX0_tryOrders 5 = .ok (.if_icmp .ne 29, 3) := dk_160 0 29 (dk_at dksX0_tryOrders_0 5 rfl rfl)
theorem dX0_tryOrders_8 : decode cX0_tryOrders 8 = .ok (.aload_n 0, 1) := dk_42 (dk_at dksX0_tryOrders_0 8 rfl rfl)
theorem dX0_tryOrders_9 : decode cX0_tryOrders 9 = .ok (.getfield 61, 3) := dk_180 0 61 (dk_at dksX0_tryOrders_0 9 rfl rfl)
theorem dX0_tryOrders_12 : decode cX0_tryOrders 12 = .ok (.aload_n 0, 1) := dk_42 (dk_at dksX0_tryOrders_0 12 rfl rfl)
theorem dX0_tryOrders_13 : decode cX0_tryOrders 13 = .ok (.getfield 48, 3) := dk_180 0 48 (dk_at dksX0_tryOrders_0 13 rfl rfl)
theorem dX0_tryOrders_16 : decode cX0_tryOrders 16 = .ok (.aload_n 0, 1) := dk_42 (dk_at dksX0_tryOrders_0 16 rfl rfl)
theorem dX0_tryOrders_17 : decode cX0_tryOrders 17 = .ok (.getfield 136, 3) := dk_180 0 136 (dk_at dksX0_tryOrders_0 17 rfl rfl)
theorem dX0_tryOrders_20 : decode cX0_tryOrders 20 = .ok (.aload_n 0, 1) := dk_42 (dk_at dksX0_tryOrders_0 20 rfl rfl)
theorem dX0_tryOrders_21 : decode cX0_tryOrders 21 = .ok (.getfield 27, 3) := dk_180 0 27 (dk_at dksX0_tryOrders_0 21 rfl rfl)
theorem dX0_tryOrders_24 : decode cX0_tryOrders 24 = .ok (.iconst (-1), 1) := dk_2 (dk_at dksX0_tryOrders_1 0 rfl rfl)
theorem dX0_tryOrders_25 : decode cX0_tryOrders 25 = .ok (.invokevirtual 256, 3) := dk_182 1 0 (dk_at dksX0_tryOrders_1 1 rfl rfl)
theorem dX0_tryOrders_28 : decode cX0_tryOrders 28 = .ok (.aload_n 0, 1) := dk_42 (dk_at dksX0_tryOrders_1 4 rfl rfl)
theorem dX0_tryOrders_29 : decode cX0_tryOrders 29 = .ok (.iload_n 3, 1) := dk_29 (dk_at dksX0_tryOrders_1 5 rfl rfl)
theorem dX0_tryOrders_30 : decode cX0_tryOrders 30 = .ok (.invokevirtual 363, 3) := dk_182 1 107 (dk_at dksX0_tryOrders_1 6 rfl rfl)
theorem dX0_tryOrders_33 : decode cX0_tryOrders 33 = .ok (.return_, 1) := dk_177 (dk_at dksX0_tryOrders_1 9 rfl rfl)
theorem dX0_tryOrders_34 : decode cX0_tryOrders 34 = .ok (.iconst 0, 1) := dk_3 (dk_at dksX0_tryOrders_1 10 rfl rfl)
theorem dX0_tryOrders_35 : decode cX0_tryOrders 35 = .ok (.istore 4, 2) := dk_54 4 (dk_at dksX0_tryOrders_1 11 rfl rfl)
theorem dX0_tryOrders_37 : decode cX0_tryOrders 37 = .ok (.iload 4, 2) := dk_21 4 (dk_at dksX0_tryOrders_1 13 rfl rfl)
theorem dX0_tryOrders_39 : decode cX0_tryOrders 39 = .ok (.aload_n 0, 1) := dk_42 (dk_at dksX0_tryOrders_1 15 rfl rfl)
theorem dX0_tryOrders_40 : decode cX0_tryOrders 40 = .ok (.getfield 95, 3) := dk_180 0 95 (dk_at dksX0_tryOrders_1 16 rfl rfl)
theorem dX0_tryOrders_43 : decode cX0_tryOrders 43 = .ok (.if_icmp .ge 52, 3) := dk_162 0 52 (dk_at dksX0_tryOrders_1 19 rfl rfl)
theorem dX0_tryOrders_46 : decode cX0_tryOrders 46 = .ok (.iload_n 2, 1) := dk_28 (dk_at dksX0_tryOrders_1 22 rfl rfl)
theorem dX0_tryOrders_47 : decode cX0_tryOrders 47 = .ok (.iload 4, 2) := dk_21 4 (dk_at dksX0_tryOrders_2 0 rfl rfl)
theorem dX0_tryOrders_49 : decode cX0_tryOrders 49 = .ok (.ishr, 1) := dk_122 (dk_at dksX0_tryOrders_2 2 rfl rfl)
theorem dX0_tryOrders_50 : decode cX0_tryOrders 50 = .ok (.iconst 1, 1) := dk_4 (dk_at dksX0_tryOrders_2 3 rfl rfl)
theorem dX0_tryOrders_51 : decode cX0_tryOrders 51 = .ok (.iand, 1) := dk_126 (dk_at dksX0_tryOrders_2 4 rfl rfl)
theorem dX0_tryOrders_52 : decode cX0_tryOrders 52 = .ok (.iconst 1, 1) := dk_4 (dk_at dksX0_tryOrders_2 5 rfl rfl)
theorem dX0_tryOrders_53 : decode cX0_tryOrders 53 = .ok (.if_icmp .ne 6, 3) := dk_160 0 6 (dk_at dksX0_tryOrders_2 6 rfl rfl)
theorem dX0_tryOrders_56 : decode cX0_tryOrders 56 = .ok (.goto 33, 3) := dk_167 0 33 (dk_at dksX0_tryOrders_2 9 rfl rfl)
theorem dX0_tryOrders_59 : decode cX0_tryOrders 59 = .ok (.aload_n 0, 1) := dk_42 (dk_at dksX0_tryOrders_2 12 rfl rfl)
theorem dX0_tryOrders_60 : decode cX0_tryOrders 60 = .ok (.getfield 48, 3) := dk_180 0 48 (dk_at dksX0_tryOrders_2 13 rfl rfl)
theorem dX0_tryOrders_63 : decode cX0_tryOrders 63 = .ok (.iload_n 1, 1) := dk_27 (dk_at dksX0_tryOrders_2 16 rfl rfl)
theorem dX0_tryOrders_64 : decode cX0_tryOrders 64 = .ok (.iload 4, 2) := dk_21 4 (dk_at dksX0_tryOrders_2 17 rfl rfl)
theorem dX0_tryOrders_66 : decode cX0_tryOrders 66 = .ok (.iastore, 1) := dk_79 (dk_at dksX0_tryOrders_2 19 rfl rfl)
theorem dX0_tryOrders_67 : decode cX0_tryOrders 67 = .ok (.aload_n 0, 1) := dk_42 (dk_at dksX0_tryOrders_2 20 rfl rfl)
theorem dX0_tryOrders_68 : decode cX0_tryOrders 68 = .ok (.iload_n 1, 1) := dk_27 (dk_at dksX0_tryOrders_2 21 rfl rfl)
theorem dX0_tryOrders_69 : decode cX0_tryOrders 69 = .ok (.iconst 1, 1) := dk_4 (dk_at dksX0_tryOrders_2 22 rfl rfl)
theorem dX0_tryOrders_70 : decode cX0_tryOrders 70 = .ok (.iadd, 1) := dk_96 (dk_at dksX0_tryOrders_2 23 rfl rfl)
theorem dX0_tryOrders_71 : decode cX0_tryOrders 71 = .ok (.iload_n 2, 1) := dk_28 (dk_at dksX0_tryOrders_3 0 rfl rfl)
theorem dX0_tryOrders_72 : decode cX0_tryOrders 72 = .ok (.iconst 1, 1) := dk_4 (dk_at dksX0_tryOrders_3 1 rfl rfl)
theorem dX0_tryOrders_73 : decode cX0_tryOrders 73 = .ok (.iload 4, 2) := dk_21 4 (dk_at dksX0_tryOrders_3 2 rfl rfl)
theorem dX0_tryOrders_75 : decode cX0_tryOrders 75 = .ok (.ishl, 1) := dk_120 (dk_at dksX0_tryOrders_3 4 rfl rfl)
theorem dX0_tryOrders_76 : decode cX0_tryOrders 76 = .ok (.ior, 1) := dk_128 (dk_at dksX0_tryOrders_3 5 rfl rfl)
theorem dX0_tryOrders_77 : decode cX0_tryOrders 77 = .ok (.bipush 10, 2) := dk_16 10 (dk_at dksX0_tryOrders_3 6 rfl rfl)
theorem dX0_tryOrders_79 : decode cX0_tryOrders 79 = .ok (.iload_n 3, 1) := dk_29 (dk_at dksX0_tryOrders_3 8 rfl rfl)
theorem dX0_tryOrders_80 : decode cX0_tryOrders 80 = .ok (.imul, 1) := dk_104 (dk_at dksX0_tryOrders_3 9 rfl rfl)
theorem dX0_tryOrders_81 : decode cX0_tryOrders 81 = .ok (.iload 4, 2) := dk_21 4 (dk_at dksX0_tryOrders_3 10 rfl rfl)
theorem dX0_tryOrders_83 : decode cX0_tryOrders 83 = .ok (.iadd, 1) := dk_96 (dk_at dksX0_tryOrders_3 12 rfl rfl)
theorem dX0_tryOrders_84 : decode cX0_tryOrders 84 = .ok (.iconst 1, 1) := dk_4 (dk_at dksX0_tryOrders_3 13 rfl rfl)
theorem dX0_tryOrders_85 : decode cX0_tryOrders 85 = .ok (.iadd, 1) := dk_96 (dk_at dksX0_tryOrders_3 14 rfl rfl)
theorem dX0_tryOrders_86 : decode cX0_tryOrders 86 = .ok (.invokevirtual 370, 3) := dk_182 1 114 (dk_at dksX0_tryOrders_3 15 rfl rfl)
theorem dX0_tryOrders_89 : decode cX0_tryOrders 89 = .ok (.iinc 4 1, 3) := dk_132 4 1 (dk_at dksX0_tryOrders_3 18 rfl rfl)
theorem dX0_tryOrders_92 : decode cX0_tryOrders 92 = .ok (.goto (-55), 3) := dk_167 255 201 (dk_at dksX0_tryOrders_3 21 rfl rfl)
theorem dX0_tryOrders_95 : decode cX0_tryOrders 95 = .ok (.return_, 1) := dk_177 (dk_at dksX0_tryOrders_4 0 rfl rfl)
abbrev cX0_times : ByteArray := prog_1_method_40_code
def yX0_times : MethodName := ⟨RX0, "times", "(I)I"⟩
def dkwX0_times_3 : List UInt8 := [182, 1, 111, 172]
abbrev dktX0_times_3 : List UInt8 := dkwX0_times_3 ++ []
def dkwX0_times_2 : List UInt8 := [42, 180, 0, 136, 28, 2, 182, 1, 0, 42, 28, 182, 1, 107, 132, 2, 1, 167, 255, 225, 42, 27]
abbrev dktX0_times_2 : List UInt8 := dkwX0_times_2 ++ dktX0_times_3
def dkwX0_times_1 : List UInt8 := [182, 0, 246, 42, 2, 181, 1, 98, 4, 61, 28, 16, 9, 163, 0, 31, 42, 180, 0, 61, 42, 180, 0, 48]
abbrev dktX0_times_1 : List UInt8 := dkwX0_times_1 ++ dktX0_times_2
def dkwX0_times_0 : List UInt8 := [27, 3, 5, 184, 0, 91, 154, 0, 5, 2, 172, 42, 182, 0, 252, 153, 0, 6, 16, 251, 172, 42]
abbrev dktX0_times_0 : List UInt8 := dkwX0_times_0 ++ dktX0_times_1
theorem dksX0_times_0 : cX0_times.data.toList.drop 0 = dktX0_times_0 := by decide +kernel
theorem dksX0_times_1 : cX0_times.data.toList.drop 22 = dktX0_times_1 := dk_seg dksX0_times_0 22 rfl rfl
theorem dksX0_times_2 : cX0_times.data.toList.drop 46 = dktX0_times_2 := dk_seg dksX0_times_1 24 rfl rfl
theorem dksX0_times_3 : cX0_times.data.toList.drop 68 = dktX0_times_3 := dk_seg dksX0_times_2 22 rfl rfl
theorem dX0_times_0 : decode cX0_times 0 = .ok (.iload_n 1, 1) := dk_27 (dk_at dksX0_times_0 0 rfl rfl)
theorem dX0_times_1 : decode cX0_times 1 = .ok (.iconst 0, 1) := dk_3 (dk_at dksX0_times_0 1 rfl rfl)
theorem dX0_times_2 : decode cX0_times 2 = .ok (.iconst 2, 1) := dk_5 (dk_at dksX0_times_0 2 rfl rfl)
theorem dX0_times_3 : decode cX0_times 3 = .ok (.invokestatic 91, 3) := dk_184 0 91 (dk_at dksX0_times_0 3 rfl rfl)
theorem dX0_times_6 : decode cX0_times 6 = .ok (.ifCond .ne 5, 3) := dk_154 0 5 (dk_at dksX0_times_0 6 rfl rfl)
theorem dX0_times_9 : decode cX0_times 9 = .ok (.iconst (-1), 1) := dk_2 (dk_at dksX0_times_0 9 rfl rfl)
theorem dX0_times_10 : decode cX0_times 10 = .ok (.ireturn, 1) := dk_172 (dk_at dksX0_times_0 10 rfl rfl)
theorem dX0_times_11 : decode cX0_times 11 = .ok (.aload_n 0, 1) := dk_42 (dk_at dksX0_times_0 11 rfl rfl)
theorem dX0_times_12 : decode cX0_times 12 = .ok (.invokevirtual 252, 3) := dk_182 0 252 (dk_at dksX0_times_0 12 rfl rfl)
theorem dX0_times_15 : decode cX0_times 15 = .ok (.ifCond .eq 6, 3) := dk_153 0 6 (dk_at dksX0_times_0 15 rfl rfl)
theorem dX0_times_18 : decode cX0_times 18 = .ok (.bipush (-5), 2) := dk_16 251 (dk_at dksX0_times_0 18 rfl rfl)
theorem dX0_times_20 : decode cX0_times 20 = .ok (.ireturn, 1) := dk_172 (dk_at dksX0_times_0 20 rfl rfl)
theorem dX0_times_21 : decode cX0_times 21 = .ok (.aload_n 0, 1) := dk_42 (dk_at dksX0_times_0 21 rfl rfl)
theorem dX0_times_22 : decode cX0_times 22 = .ok (.invokevirtual 246, 3) := dk_182 0 246 (dk_at dksX0_times_1 0 rfl rfl)
theorem dX0_times_25 : decode cX0_times 25 = .ok (.aload_n 0, 1) := dk_42 (dk_at dksX0_times_1 3 rfl rfl)
theorem dX0_times_26 : decode cX0_times 26 = .ok (.iconst (-1), 1) := dk_2 (dk_at dksX0_times_1 4 rfl rfl)
theorem dX0_times_27 : decode cX0_times 27 = .ok (.putfield 354, 3) := dk_181 1 98 (dk_at dksX0_times_1 5 rfl rfl)
theorem dX0_times_30 : decode cX0_times 30 = .ok (.iconst 1, 1) := dk_4 (dk_at dksX0_times_1 8 rfl rfl)
theorem dX0_times_31 : decode cX0_times 31 = .ok (.istore_n 2, 1) := dk_61 (dk_at dksX0_times_1 9 rfl rfl)
theorem dX0_times_32 : decode cX0_times 32 = .ok (.iload_n 2, 1) := dk_28 (dk_at dksX0_times_1 10 rfl rfl)
theorem dX0_times_33 : decode cX0_times 33 = .ok (.bipush 9, 2) := dk_16 9 (dk_at dksX0_times_1 11 rfl rfl)
theorem dX0_times_35 : decode cX0_times 35 = .ok (.if_icmp .gt 31, 3) := dk_163 0 31 (dk_at dksX0_times_1 13 rfl rfl)
theorem dX0_times_38 : decode cX0_times 38 = .ok (.aload_n 0, 1) := dk_42 (dk_at dksX0_times_1 16 rfl rfl)
theorem dX0_times_39 : decode cX0_times 39 = .ok (.getfield 61, 3) := dk_180 0 61 (dk_at dksX0_times_1 17 rfl rfl)
theorem dX0_times_42 : decode cX0_times 42 = .ok (.aload_n 0, 1) := dk_42 (dk_at dksX0_times_1 20 rfl rfl)
theorem dX0_times_43 : decode cX0_times 43 = .ok (.getfield 48, 3) := dk_180 0 48 (dk_at dksX0_times_1 21 rfl rfl)
theorem dX0_times_46 : decode cX0_times 46 = .ok (.aload_n 0, 1) := dk_42 (dk_at dksX0_times_2 0 rfl rfl)
theorem dX0_times_47 : decode cX0_times 47 = .ok (.getfield 136, 3) := dk_180 0 136 (dk_at dksX0_times_2 1 rfl rfl)
theorem dX0_times_50 : decode cX0_times 50 = .ok (.iload_n 2, 1) := dk_28 (dk_at dksX0_times_2 4 rfl rfl)
theorem dX0_times_51 : decode cX0_times 51 = .ok (.iconst (-1), 1) := dk_2 (dk_at dksX0_times_2 5 rfl rfl)
theorem dX0_times_52 : decode cX0_times 52 = .ok (.invokevirtual 256, 3) := dk_182 1 0 (dk_at dksX0_times_2 6 rfl rfl)
theorem dX0_times_55 : decode cX0_times 55 = .ok (.aload_n 0, 1) := dk_42 (dk_at dksX0_times_2 9 rfl rfl)
theorem dX0_times_56 : decode cX0_times 56 = .ok (.iload_n 2, 1) := dk_28 (dk_at dksX0_times_2 10 rfl rfl)
theorem dX0_times_57 : decode cX0_times 57 = .ok (.invokevirtual 363, 3) := dk_182 1 107 (dk_at dksX0_times_2 11 rfl rfl)
theorem dX0_times_60 : decode cX0_times 60 = .ok (.iinc 2 1, 3) := dk_132 2 1 (dk_at dksX0_times_2 14 rfl rfl)
theorem dX0_times_63 : decode cX0_times 63 = .ok (.goto (-31), 3) := dk_167 255 225 (dk_at dksX0_times_2 17 rfl rfl)
theorem dX0_times_66 : decode cX0_times 66 = .ok (.aload_n 0, 1) := dk_42 (dk_at dksX0_times_2 20 rfl rfl)
theorem dX0_times_67 : decode cX0_times 67 = .ok (.iload_n 1, 1) := dk_27 (dk_at dksX0_times_2 21 rfl rfl)
theorem dX0_times_68 : decode cX0_times 68 = .ok (.invokevirtual 367, 3) := dk_182 1 111 (dk_at dksX0_times_3 0 rfl rfl)
theorem dX0_times_71 : decode cX0_times 71 = .ok (.ireturn, 1) := dk_172 (dk_at dksX0_times_3 3 rfl rfl)
abbrev cX0_film : ByteArray := prog_1_method_42_code
def yX0_film : MethodName := ⟨RX0, "film", "(I)I"⟩
def dkwX0_film_2 : List UInt8 := [16, 245, 172]
abbrev dktX0_film_2 : List UInt8 := dkwX0_film_2 ++ []
def dkwX0_film_1 : List UInt8 := [42, 182, 0, 252, 153, 0, 8, 16, 251, 167, 0, 8, 42, 44, 182, 1, 123, 172, 77, 16, 244, 172, 77]
abbrev dktX0_film_1 : List UInt8 := dkwX0_film_1 ++ dktX0_film_2
def dkwX0_film_0 : List UInt8 := [27, 184, 0, 121, 154, 0, 5, 2, 172, 42, 180, 0, 84, 27, 50, 192, 1, 118, 77, 44, 182, 1, 117, 87]
abbrev dktX0_film_0 : List UInt8 := dkwX0_film_0 ++ dktX0_film_1
theorem dksX0_film_0 : cX0_film.data.toList.drop 0 = dktX0_film_0 := by decide +kernel
theorem dksX0_film_1 : cX0_film.data.toList.drop 24 = dktX0_film_1 := dk_seg dksX0_film_0 24 rfl rfl
theorem dksX0_film_2 : cX0_film.data.toList.drop 47 = dktX0_film_2 := dk_seg dksX0_film_1 23 rfl rfl
theorem dX0_film_0 : decode cX0_film 0 = .ok (.iload_n 1, 1) := dk_27 (dk_at dksX0_film_0 0 rfl rfl)
theorem dX0_film_1 : decode cX0_film 1 = .ok (.invokestatic 121, 3) := dk_184 0 121 (dk_at dksX0_film_0 1 rfl rfl)
theorem dX0_film_4 : decode cX0_film 4 = .ok (.ifCond .ne 5, 3) := dk_154 0 5 (dk_at dksX0_film_0 4 rfl rfl)
theorem dX0_film_7 : decode cX0_film 7 = .ok (.iconst (-1), 1) := dk_2 (dk_at dksX0_film_0 7 rfl rfl)
theorem dX0_film_8 : decode cX0_film 8 = .ok (.ireturn, 1) := dk_172 (dk_at dksX0_film_0 8 rfl rfl)
theorem dX0_film_9 : decode cX0_film 9 = .ok (.aload_n 0, 1) := dk_42 (dk_at dksX0_film_0 9 rfl rfl)
theorem dX0_film_10 : decode cX0_film 10 = .ok (.getfield 84, 3) := dk_180 0 84 (dk_at dksX0_film_0 10 rfl rfl)
theorem dX0_film_13 : decode cX0_film 13 = .ok (.iload_n 1, 1) := dk_27 (dk_at dksX0_film_0 13 rfl rfl)
theorem dX0_film_14 : decode cX0_film 14 = .ok (.aaload, 1) := dk_50 (dk_at dksX0_film_0 14 rfl rfl)
theorem dX0_film_15 : decode cX0_film 15 = .ok (.checkcast 374, 3) := dk_192 1 118 (dk_at dksX0_film_0 15 rfl rfl)
theorem dX0_film_18 : decode cX0_film 18 = .ok (.astore_n 2, 1) := dk_77 (dk_at dksX0_film_0 18 rfl rfl)
theorem dX0_film_19 : decode cX0_film 19 = .ok (.aload_n 2, 1) := dk_44 (dk_at dksX0_film_0 19 rfl rfl)
theorem dX0_film_20 : decode cX0_film 20 = .ok (.invokevirtual 373, 3) := dk_182 1 117 (dk_at dksX0_film_0 20 rfl rfl)
theorem dX0_film_23 : decode cX0_film 23 = .ok (.pop, 1) := dk_87 (dk_at dksX0_film_0 23 rfl rfl)
theorem dX0_film_24 : decode cX0_film 24 = .ok (.aload_n 0, 1) := dk_42 (dk_at dksX0_film_1 0 rfl rfl)
theorem dX0_film_25 : decode cX0_film 25 = .ok (.invokevirtual 252, 3) := dk_182 0 252 (dk_at dksX0_film_1 1 rfl rfl)
theorem dX0_film_28 : decode cX0_film 28 = .ok (.ifCond .eq 8, 3) := dk_153 0 8 (dk_at dksX0_film_1 4 rfl rfl)
theorem dX0_film_31 : decode cX0_film 31 = .ok (.bipush (-5), 2) := dk_16 251 (dk_at dksX0_film_1 7 rfl rfl)
theorem dX0_film_33 : decode cX0_film 33 = .ok (.goto 8, 3) := dk_167 0 8 (dk_at dksX0_film_1 9 rfl rfl)
theorem dX0_film_36 : decode cX0_film 36 = .ok (.aload_n 0, 1) := dk_42 (dk_at dksX0_film_1 12 rfl rfl)
theorem dX0_film_37 : decode cX0_film 37 = .ok (.aload_n 2, 1) := dk_44 (dk_at dksX0_film_1 13 rfl rfl)
theorem dX0_film_38 : decode cX0_film 38 = .ok (.invokevirtual 379, 3) := dk_182 1 123 (dk_at dksX0_film_1 14 rfl rfl)
theorem dX0_film_41 : decode cX0_film 41 = .ok (.ireturn, 1) := dk_172 (dk_at dksX0_film_1 17 rfl rfl)
theorem dX0_film_42 : decode cX0_film 42 = .ok (.astore_n 2, 1) := dk_77 (dk_at dksX0_film_1 18 rfl rfl)
theorem dX0_film_43 : decode cX0_film 43 = .ok (.bipush (-12), 2) := dk_16 244 (dk_at dksX0_film_1 19 rfl rfl)
theorem dX0_film_45 : decode cX0_film 45 = .ok (.ireturn, 1) := dk_172 (dk_at dksX0_film_1 21 rfl rfl)
theorem dX0_film_46 : decode cX0_film 46 = .ok (.astore_n 2, 1) := dk_77 (dk_at dksX0_film_1 22 rfl rfl)
theorem dX0_film_47 : decode cX0_film 47 = .ok (.bipush (-11), 2) := dk_16 245 (dk_at dksX0_film_2 0 rfl rfl)
theorem dX0_film_49 : decode cX0_film 49 = .ok (.ireturn, 1) := dk_172 (dk_at dksX0_film_2 2 rfl rfl)
abbrev cX0_filmed : ByteArray := prog_1_method_41_code
def yX0_filmed : MethodName := ⟨RX0, "filmed", "(LSpeaksInTurn$ByteRow;)I"⟩
def dkwX0_filmed_5 : List UInt8 := [167, 255, 148, 28, 172]
abbrev dktX0_filmed_5 : List UInt8 := dkwX0_filmed_5 ++ []
def dkwX0_filmed_4 : List UInt8 := [3, 54, 4, 132, 5, 1, 167, 255, 211, 21, 4, 153, 0, 9, 28, 4, 29, 120, 128, 61, 132, 3, 1]
abbrev dktX0_filmed_4 : List UInt8 := dkwX0_filmed_4 ++ dktX0_filmed_5
def dkwX0_filmed_3 : List UInt8 := [21, 5, 182, 1, 122, 42, 180, 0, 61, 180, 1, 59, 21, 5, 46, 133, 148, 154, 0, 7, 4, 167, 0, 4]
abbrev dktX0_filmed_3 : List UInt8 := dkwX0_filmed_3 ++ dktX0_filmed_4
def dkwX0_filmed_2 : List UInt8 := [167, 0, 4, 3, 54, 4, 3, 54, 5, 21, 4, 153, 0, 46, 21, 5, 43, 182, 1, 117, 162, 0, 37, 43]
abbrev dktX0_filmed_2 : List UInt8 := dkwX0_filmed_2 ++ dktX0_filmed_3
def dkwX0_filmed_1 : List UInt8 := [180, 0, 27, 2, 182, 1, 0, 43, 182, 1, 117, 42, 180, 0, 61, 180, 1, 20, 163, 0, 7, 4]
abbrev dktX0_filmed_1 : List UInt8 := dkwX0_filmed_1 ++ dktX0_filmed_2
def dkwX0_filmed_0 : List UInt8 := [3, 61, 42, 182, 0, 246, 3, 62, 29, 8, 163, 0, 109, 42, 180, 0, 61, 42, 180, 0, 48, 29, 42]
abbrev dktX0_filmed_0 : List UInt8 := dkwX0_filmed_0 ++ dktX0_filmed_1
theorem dksX0_filmed_0 : cX0_filmed.data.toList.drop 0 = dktX0_filmed_0 := by decide +kernel
theorem dksX0_filmed_1 : cX0_filmed.data.toList.drop 23 = dktX0_filmed_1 := dk_seg dksX0_filmed_0 23 rfl rfl
theorem dksX0_filmed_2 : cX0_filmed.data.toList.drop 45 = dktX0_filmed_2 := dk_seg dksX0_filmed_1 22 rfl rfl
theorem dksX0_filmed_3 : cX0_filmed.data.toList.drop 69 = dktX0_filmed_3 := dk_seg dksX0_filmed_2 24 rfl rfl
theorem dksX0_filmed_4 : cX0_filmed.data.toList.drop 93 = dktX0_filmed_4 := dk_seg dksX0_filmed_3 24 rfl rfl
theorem dksX0_filmed_5 : cX0_filmed.data.toList.drop 116 = dktX0_filmed_5 := dk_seg dksX0_filmed_4 23 rfl rfl
theorem dX0_filmed_0 : decode cX0_filmed 0 = .ok (.iconst 0, 1) := dk_3 (dk_at dksX0_filmed_0 0 rfl rfl)
theorem dX0_filmed_1 : decode cX0_filmed 1 = .ok (.istore_n 2, 1) := dk_61 (dk_at dksX0_filmed_0 1 rfl rfl)
theorem dX0_filmed_2 : decode cX0_filmed 2 = .ok (.aload_n 0, 1) := dk_42 (dk_at dksX0_filmed_0 2 rfl rfl)
theorem dX0_filmed_3 : decode cX0_filmed 3 = .ok (.invokevirtual 246, 3) := dk_182 0 246 (dk_at dksX0_filmed_0 3 rfl rfl)
theorem dX0_filmed_6 : decode cX0_filmed 6 = .ok (.iconst 0, 1) := dk_3 (dk_at dksX0_filmed_0 6 rfl rfl)
theorem dX0_filmed_7 : decode cX0_filmed 7 = .ok (.istore_n 3, 1) := dk_62 (dk_at dksX0_filmed_0 7 rfl rfl)
theorem dX0_filmed_8 : decode cX0_filmed 8 = .ok (.iload_n 3, 1) := dk_29 (dk_at dksX0_filmed_0 8 rfl rfl)
theorem dX0_filmed_9 : decode cX0_filmed 9 = .ok (.iconst 5, 1) := dk_8 (dk_at dksX0_filmed_0 9 rfl rfl)
theorem dX0_filmed_10 : decode cX0_filmed 10 = .ok (.if_icmp .gt 109, 3) := dk_163 0 109 (dk_at dksX0_filmed_0 10 rfl rfl)
theorem dX0_filmed_13 : decode cX0_filmed 13 = .ok (.aload_n 0, 1) := dk_42 (dk_at dksX0_filmed_0 13 rfl rfl)
theorem dX0_filmed_14 : decode cX0_filmed 14 = .ok (.getfield 61, 3) := dk_180 0 61 (dk_at dksX0_filmed_0 14 rfl rfl)
theorem dX0_filmed_17 : decode cX0_filmed 17 = .ok (.aload_n 0, 1) := dk_42 (dk_at dksX0_filmed_0 17 rfl rfl)
theorem dX0_filmed_18 : decode cX0_filmed 18 = .ok (.getfield 48, 3) := dk_180 0 48 (dk_at dksX0_filmed_0 18 rfl rfl)
theorem dX0_filmed_21 : decode cX0_filmed 21 = .ok (.iload_n 3, 1) := dk_29 (dk_at dksX0_filmed_0 21 rfl rfl)
theorem dX0_filmed_22 : decode cX0_filmed 22 = .ok (.aload_n 0, 1) := dk_42 (dk_at dksX0_filmed_0 22 rfl rfl)
theorem dX0_filmed_23 : decode cX0_filmed 23 = .ok (.getfield 27, 3) := dk_180 0 27 (dk_at dksX0_filmed_1 0 rfl rfl)
theorem dX0_filmed_26 : decode cX0_filmed 26 = .ok (.iconst (-1), 1) := dk_2 (dk_at dksX0_filmed_1 3 rfl rfl)
theorem dX0_filmed_27 : decode cX0_filmed 27 = .ok (.invokevirtual 256, 3) := dk_182 1 0 (dk_at dksX0_filmed_1 4 rfl rfl)
theorem dX0_filmed_30 : decode cX0_filmed 30 = .ok (.aload_n 1, 1) := dk_43 (dk_at dksX0_filmed_1 7 rfl rfl)
theorem dX0_filmed_31 : decode cX0_filmed 31 = .ok (.invokevirtual 373, 3) := dk_182 1 117 (dk_at dksX0_filmed_1 8 rfl rfl)
theorem dX0_filmed_34 : decode cX0_filmed 34 = .ok (.aload_n 0, 1) := dk_42 (dk_at dksX0_filmed_1 11 rfl rfl)
theorem dX0_filmed_35 : decode cX0_filmed 35 = .ok (.getfield 61, 3) := dk_180 0 61 (dk_at dksX0_filmed_1 12 rfl rfl)
theorem dX0_filmed_38 : decode cX0_filmed 38 = .ok (.getfield 276, 3) := dk_180 1 20 (dk_at dksX0_filmed_1 15 rfl rfl)
theorem dX0_filmed_41 : decode cX0_filmed 41 = .ok (.if_icmp .gt 7, 3) := dk_163 0 7 (dk_at dksX0_filmed_1 18 rfl rfl)
theorem dX0_filmed_44 : decode cX0_filmed 44 = .ok (.iconst 1, 1) := dk_4 (dk_at dksX0_filmed_1 21 rfl rfl)
theorem dX0_filmed_45 : decode cX0_filmed 45 = .ok (.goto 4, 3) := dk_167 0 4 (dk_at dksX0_filmed_2 0 rfl rfl)
theorem dX0_filmed_48 : decode cX0_filmed 48 = .ok (.iconst 0, 1) := dk_3 (dk_at dksX0_filmed_2 3 rfl rfl)
theorem dX0_filmed_49 : decode cX0_filmed 49 = .ok (.istore 4, 2) := dk_54 4 (dk_at dksX0_filmed_2 4 rfl rfl)
theorem dX0_filmed_51 : decode cX0_filmed 51 = .ok (.iconst 0, 1) := dk_3 (dk_at dksX0_filmed_2 6 rfl rfl)
theorem dX0_filmed_52 : decode cX0_filmed 52 = .ok (.istore 5, 2) := dk_54 5 (dk_at dksX0_filmed_2 7 rfl rfl)
theorem dX0_filmed_54 : decode cX0_filmed 54 = .ok (.iload 4, 2) := dk_21 4 (dk_at dksX0_filmed_2 9 rfl rfl)
theorem dX0_filmed_56 : decode cX0_filmed 56 = .ok (.ifCond .eq 46, 3) := dk_153 0 46 (dk_at dksX0_filmed_2 11 rfl rfl)
theorem dX0_filmed_59 : decode cX0_filmed 59 = .ok (.iload 5, 2) := dk_21 5 (dk_at dksX0_filmed_2 14 rfl rfl)
theorem dX0_filmed_61 : decode cX0_filmed 61 = .ok (.aload_n 1, 1) := dk_43 (dk_at dksX0_filmed_2 16 rfl rfl)
theorem dX0_filmed_62 : decode cX0_filmed 62 = .ok (.invokevirtual 373, 3) := dk_182 1 117 (dk_at dksX0_filmed_2 17 rfl rfl)
theorem dX0_filmed_65 : decode cX0_filmed 65 = .ok (.if_icmp .ge 37, 3) := dk_162 0 37 (dk_at dksX0_filmed_2 20 rfl rfl)
theorem dX0_filmed_68 : decode cX0_filmed 68 = .ok (.aload_n 1, 1) := dk_43 (dk_at dksX0_filmed_2 23 rfl rfl)
theorem dX0_filmed_69 : decode cX0_filmed 69 = .ok (.iload 5, 2) := dk_21 5 (dk_at dksX0_filmed_3 0 rfl rfl)
theorem dX0_filmed_71 : decode cX0_filmed 71 = .ok (.invokevirtual 378, 3) := dk_182 1 122 (dk_at dksX0_filmed_3 2 rfl rfl)
theorem dX0_filmed_74 : decode cX0_filmed 74 = .ok (.aload_n 0, 1) := dk_42 (dk_at dksX0_filmed_3 5 rfl rfl)
theorem dX0_filmed_75 : decode cX0_filmed 75 = .ok (.getfield 61, 3) := dk_180 0 61 (dk_at dksX0_filmed_3 6 rfl rfl)
theorem dX0_filmed_78 : decode cX0_filmed 78 = .ok (.getfield 315, 3) := dk_180 1 59 (dk_at dksX0_filmed_3 9 rfl rfl)
theorem dX0_filmed_81 : decode cX0_filmed 81 = .ok (.iload 5, 2) := dk_21 5 (dk_at dksX0_filmed_3 12 rfl rfl)
theorem dX0_filmed_83 : decode cX0_filmed 83 = .ok (.iaload, 1) := dk_46 (dk_at dksX0_filmed_3 14 rfl rfl)
theorem dX0_filmed_84 : decode cX0_filmed 84 = .ok (.i2l, 1) := dk_133 (dk_at dksX0_filmed_3 15 rfl rfl)
theorem dX0_filmed_85 : decode cX0_filmed 85 = .ok (.lcmp, 1) := dk_148 (dk_at dksX0_filmed_3 16 rfl rfl)
theorem dX0_filmed_86 : decode cX0_filmed 86 = .ok (.ifCond .ne 7, 3) := dk_154 0 7 (dk_at dksX0_filmed_3 17 rfl rfl)
theorem dX0_filmed_89 : decode cX0_filmed 89 = .ok (.iconst 1, 1) := dk_4 (dk_at dksX0_filmed_3 20 rfl rfl)
theorem dX0_filmed_90 : decode cX0_filmed 90 = .ok (.goto 4, 3) := dk_167 0 4 (dk_at dksX0_filmed_3 21 rfl rfl)
theorem dX0_filmed_93 : decode cX0_filmed 93 = .ok (.iconst 0, 1) := dk_3 (dk_at dksX0_filmed_4 0 rfl rfl)
theorem dX0_filmed_94 : decode cX0_filmed 94 = .ok (.istore 4, 2) := dk_54 4 (dk_at dksX0_filmed_4 1 rfl rfl)
theorem dX0_filmed_96 : decode cX0_filmed 96 = .ok (.iinc 5 1, 3) := dk_132 5 1 (dk_at dksX0_filmed_4 3 rfl rfl)
theorem dX0_filmed_99 : decode cX0_filmed 99 = .ok (.goto (-45), 3) := dk_167 255 211 (dk_at dksX0_filmed_4 6 rfl rfl)
theorem dX0_filmed_102 : decode cX0_filmed 102 = .ok (.iload 4, 2) := dk_21 4 (dk_at dksX0_filmed_4 9 rfl rfl)
theorem dX0_filmed_104 : decode cX0_filmed 104 = .ok (.ifCond .eq 9, 3) := dk_153 0 9 (dk_at dksX0_filmed_4 11 rfl rfl)
theorem dX0_filmed_107 : decode cX0_filmed 107 = .ok (.iload_n 2, 1) := dk_28 (dk_at dksX0_filmed_4 14 rfl rfl)
theorem dX0_filmed_108 : decode cX0_filmed 108 = .ok (.iconst 1, 1) := dk_4 (dk_at dksX0_filmed_4 15 rfl rfl)
theorem dX0_filmed_109 : decode cX0_filmed 109 = .ok (.iload_n 3, 1) := dk_29 (dk_at dksX0_filmed_4 16 rfl rfl)
theorem dX0_filmed_110 : decode cX0_filmed 110 = .ok (.ishl, 1) := dk_120 (dk_at dksX0_filmed_4 17 rfl rfl)
theorem dX0_filmed_111 : decode cX0_filmed 111 = .ok (.ior, 1) := dk_128 (dk_at dksX0_filmed_4 18 rfl rfl)
theorem dX0_filmed_112 : decode cX0_filmed 112 = .ok (.istore_n 2, 1) := dk_61 (dk_at dksX0_filmed_4 19 rfl rfl)
theorem dX0_filmed_113 : decode cX0_filmed 113 = .ok (.iinc 3 1, 3) := dk_132 3 1 (dk_at dksX0_filmed_4 20 rfl rfl)
theorem dX0_filmed_116 : decode cX0_filmed 116 = .ok (.goto (-108), 3) := dk_167 255 148 (dk_at dksX0_filmed_5 0 rfl rfl)
theorem dX0_filmed_119 : decode cX0_filmed 119 = .ok (.iload_n 2, 1) := dk_28 (dk_at dksX0_filmed_5 3 rfl rfl)
theorem dX0_filmed_120 : decode cX0_filmed 120 = .ok (.ireturn, 1) := dk_172 (dk_at dksX0_filmed_5 4 rfl rfl)
abbrev cX0_wish : ByteArray := prog_1_method_43_code
def yX0_wish : MethodName := ⟨RX0, "wish", "(II)I"⟩
def dkwX0_wish_3 : List UInt8 := [167, 255, 208, 42, 27, 28, 29, 3, 3, 3, 182, 1, 130, 172]
abbrev dktX0_wish_3 : List UInt8 := dkwX0_wish_3 ++ []
def dkwX0_wish_2 : List UInt8 := [42, 180, 0, 23, 21, 4, 50, 27, 182, 1, 127, 153, 0, 7, 4, 167, 0, 4, 3, 96, 62, 132, 4, 1]
abbrev dktX0_wish_2 : List UInt8 := dkwX0_wish_2 ++ dktX0_wish_3
def dkwX0_wish_1 : List UInt8 := [21, 4, 42, 180, 0, 108, 162, 0, 45, 29, 42, 180, 0, 23, 21, 4, 50, 180, 0, 164, 28, 160, 0, 21]
abbrev dktX0_wish_1 : List UInt8 := dkwX0_wish_1 ++ dktX0_wish_2
def dkwX0_wish_0 : List UInt8 := [42, 27, 182, 0, 142, 153, 0, 11, 42, 28, 182, 0, 104, 154, 0, 6, 18, 145, 172, 3, 62, 3, 54, 4]
abbrev dktX0_wish_0 : List UInt8 := dkwX0_wish_0 ++ dktX0_wish_1
theorem dksX0_wish_0 : cX0_wish.data.toList.drop 0 = dktX0_wish_0 := by decide +kernel
theorem dksX0_wish_1 : cX0_wish.data.toList.drop 24 = dktX0_wish_1 := dk_seg dksX0_wish_0 24 rfl rfl
theorem dksX0_wish_2 : cX0_wish.data.toList.drop 48 = dktX0_wish_2 := dk_seg dksX0_wish_1 24 rfl rfl
theorem dksX0_wish_3 : cX0_wish.data.toList.drop 72 = dktX0_wish_3 := dk_seg dksX0_wish_2 24 rfl rfl
theorem dX0_wish_0 : decode cX0_wish 0 = .ok (.aload_n 0, 1) := dk_42 (dk_at dksX0_wish_0 0 rfl rfl)
theorem dX0_wish_1 : decode cX0_wish 1 = .ok (.iload_n 1, 1) := dk_27 (dk_at dksX0_wish_0 1 rfl rfl)
theorem dX0_wish_2 : decode cX0_wish 2 = .ok (.invokevirtual 142, 3) := dk_182 0 142 (dk_at dksX0_wish_0 2 rfl rfl)
theorem dX0_wish_5 : decode cX0_wish 5 = .ok (.ifCond .eq 11, 3) := dk_153 0 11 (dk_at dksX0_wish_0 5 rfl rfl)
theorem dX0_wish_8 : decode cX0_wish 8 = .ok (.aload_n 0, 1) := dk_42 (dk_at dksX0_wish_0 8 rfl rfl)
theorem dX0_wish_9 : decode cX0_wish 9 = .ok (.iload_n 2, 1) := dk_28 (dk_at dksX0_wish_0 9 rfl rfl)
theorem dX0_wish_10 : decode cX0_wish 10 = .ok (.invokevirtual 104, 3) := dk_182 0 104 (dk_at dksX0_wish_0 10 rfl rfl)
theorem dX0_wish_13 : decode cX0_wish 13 = .ok (.ifCond .ne 6, 3) := dk_154 0 6 (dk_at dksX0_wish_0 13 rfl rfl)
theorem dX0_wish_16 : decode cX0_wish 16 = .ok (.ldc 145, 2) := dk_18 145 (dk_at dksX0_wish_0 16 rfl rfl)
theorem dX0_wish_18 : decode cX0_wish 18 = .ok (.ireturn, 1) := dk_172 (dk_at dksX0_wish_0 18 rfl rfl)
theorem dX0_wish_19 : decode cX0_wish 19 = .ok (.iconst 0, 1) := dk_3 (dk_at dksX0_wish_0 19 rfl rfl)
theorem dX0_wish_20 : decode cX0_wish 20 = .ok (.istore_n 3, 1) := dk_62 (dk_at dksX0_wish_0 20 rfl rfl)
theorem dX0_wish_21 : decode cX0_wish 21 = .ok (.iconst 0, 1) := dk_3 (dk_at dksX0_wish_0 21 rfl rfl)
theorem dX0_wish_22 : decode cX0_wish 22 = .ok (.istore 4, 2) := dk_54 4 (dk_at dksX0_wish_0 22 rfl rfl)
theorem dX0_wish_24 : decode cX0_wish 24 = .ok (.iload 4, 2) := dk_21 4 (dk_at dksX0_wish_1 0 rfl rfl)
theorem dX0_wish_26 : decode cX0_wish 26 = .ok (.aload_n 0, 1) := dk_42 (dk_at dksX0_wish_1 2 rfl rfl)
theorem dX0_wish_27 : decode cX0_wish 27 = .ok (.getfield 108, 3) := dk_180 0 108 (dk_at dksX0_wish_1 3 rfl rfl)
theorem dX0_wish_30 : decode cX0_wish 30 = .ok (.if_icmp .ge 45, 3) := dk_162 0 45 (dk_at dksX0_wish_1 6 rfl rfl)
theorem dX0_wish_33 : decode cX0_wish 33 = .ok (.iload_n 3, 1) := dk_29 (dk_at dksX0_wish_1 9 rfl rfl)
theorem dX0_wish_34 : decode cX0_wish 34 = .ok (.aload_n 0, 1) := dk_42 (dk_at dksX0_wish_1 10 rfl rfl)
theorem dX0_wish_35 : decode cX0_wish 35 = .ok (.getfield 23, 3) := dk_180 0 23 (dk_at dksX0_wish_1 11 rfl rfl)
theorem dX0_wish_38 : decode cX0_wish 38 = .ok (.iload 4, 2) := dk_21 4 (dk_at dksX0_wish_1 14 rfl rfl)
theorem dX0_wish_40 : decode cX0_wish 40 = .ok (.aaload, 1) := dk_50 (dk_at dksX0_wish_1 16 rfl rfl)
theorem dX0_wish_41 : decode cX0_wish 41 = .ok (.getfield 164, 3) := dk_180 0 164 (dk_at dksX0_wish_1 17 rfl rfl)
theorem dX0_wish_44 : decode cX0_wish 44 = .ok (.iload_n 2, 1) := dk_28 (dk_at dksX0_wish_1 20 rfl rfl)
theorem dX0_wish_45 : decode cX0_wish 45 = .ok (.if_icmp .ne 21, 3) := dk_160 0 21 (dk_at dksX0_wish_1 21 rfl rfl)
theorem dX0_wish_48 : decode cX0_wish 48 = .ok (.aload_n 0, 1) := dk_42 (dk_at dksX0_wish_2 0 rfl rfl)
theorem dX0_wish_49 : decode cX0_wish 49 = .ok (.getfield 23, 3) := dk_180 0 23 (dk_at dksX0_wish_2 1 rfl rfl)
theorem dX0_wish_52 : decode cX0_wish 52 = .ok (.iload 4, 2) := dk_21 4 (dk_at dksX0_wish_2 4 rfl rfl)
theorem dX0_wish_54 : decode cX0_wish 54 = .ok (.aaload, 1) := dk_50 (dk_at dksX0_wish_2 6 rfl rfl)
theorem dX0_wish_55 : decode cX0_wish 55 = .ok (.iload_n 1, 1) := dk_27 (dk_at dksX0_wish_2 7 rfl rfl)
theorem dX0_wish_56 : decode cX0_wish 56 = .ok (.invokevirtual 383, 3) := dk_182 1 127 (dk_at dksX0_wish_2 8 rfl rfl)
theorem dX0_wish_59 : decode cX0_wish 59 = .ok (.ifCond .eq 7, 3) := dk_153 0 7 (dk_at dksX0_wish_2 11 rfl rfl)
theorem dX0_wish_62 : decode cX0_wish 62 = .ok (.iconst 1, 1) := dk_4 (dk_at dksX0_wish_2 14 rfl rfl)
theorem dX0_wish_63 : decode cX0_wish 63 = .ok (.goto 4, 3) := dk_167 0 4 (dk_at dksX0_wish_2 15 rfl rfl)
theorem dX0_wish_66 : decode cX0_wish 66 = .ok (.iconst 0, 1) := dk_3 (dk_at dksX0_wish_2 18 rfl rfl)
theorem dX0_wish_67 : decode cX0_wish 67 = .ok (.iadd, 1) := dk_96 (dk_at dksX0_wish_2 19 rfl rfl)
theorem dX0_wish_68 : decode cX0_wish 68 = .ok (.istore_n 3, 1) := dk_62 (dk_at dksX0_wish_2 20 rfl rfl)
theorem dX0_wish_69 : decode cX0_wish 69 = .ok (.iinc 4 1, 3) := dk_132 4 1 (dk_at dksX0_wish_2 21 rfl rfl)
theorem dX0_wish_72 : decode cX0_wish 72 = .ok (.goto (-48), 3) := dk_167 255 208 (dk_at dksX0_wish_3 0 rfl rfl)
theorem dX0_wish_75 : decode cX0_wish 75 = .ok (.aload_n 0, 1) := dk_42 (dk_at dksX0_wish_3 3 rfl rfl)
theorem dX0_wish_76 : decode cX0_wish 76 = .ok (.iload_n 1, 1) := dk_27 (dk_at dksX0_wish_3 4 rfl rfl)
theorem dX0_wish_77 : decode cX0_wish 77 = .ok (.iload_n 2, 1) := dk_28 (dk_at dksX0_wish_3 5 rfl rfl)
theorem dX0_wish_78 : decode cX0_wish 78 = .ok (.iload_n 3, 1) := dk_29 (dk_at dksX0_wish_3 6 rfl rfl)
theorem dX0_wish_79 : decode cX0_wish 79 = .ok (.iconst 0, 1) := dk_3 (dk_at dksX0_wish_3 7 rfl rfl)
theorem dX0_wish_80 : decode cX0_wish 80 = .ok (.iconst 0, 1) := dk_3 (dk_at dksX0_wish_3 8 rfl rfl)
theorem dX0_wish_81 : decode cX0_wish 81 = .ok (.iconst 0, 1) := dk_3 (dk_at dksX0_wish_3 9 rfl rfl)
theorem dX0_wish_82 : decode cX0_wish 82 = .ok (.invokevirtual 386, 3) := dk_182 1 130 (dk_at dksX0_wish_3 10 rfl rfl)
theorem dX0_wish_85 : decode cX0_wish 85 = .ok (.ireturn, 1) := dk_172 (dk_at dksX0_wish_3 13 rfl rfl)
abbrev cX0_body : ByteArray := prog_1_method_47_code
def yX0_body : MethodName := ⟨RX0, "body", "(I)I"⟩
def dkwX0_body_2 : List UInt8 := [42, 180, 1, 137, 4, 100, 172]
abbrev dktX0_body_2 : List UInt8 := dkwX0_body_2 ++ []
def dkwX0_body_1 : List UInt8 := [42, 180, 0, 78, 42, 180, 1, 137, 42, 27, 182, 1, 164, 83, 42, 89, 180, 1, 137, 4, 96, 181, 1, 137]
abbrev dktX0_body_1 : List UInt8 := dkwX0_body_1 ++ dktX0_body_2
def dkwX0_body_0 : List UInt8 := [27, 3, 16, 7, 184, 0, 91, 154, 0, 5, 2, 172, 42, 180, 1, 137, 16, 50, 160, 0, 6, 16, 253, 172]
abbrev dktX0_body_0 : List UInt8 := dkwX0_body_0 ++ dktX0_body_1
theorem dksX0_body_0 : cX0_body.data.toList.drop 0 = dktX0_body_0 := by decide +kernel
theorem dksX0_body_1 : cX0_body.data.toList.drop 24 = dktX0_body_1 := dk_seg dksX0_body_0 24 rfl rfl
theorem dksX0_body_2 : cX0_body.data.toList.drop 48 = dktX0_body_2 := dk_seg dksX0_body_1 24 rfl rfl
theorem dX0_body_0 : decode cX0_body 0 = .ok (.iload_n 1, 1) := dk_27 (dk_at dksX0_body_0 0 rfl rfl)
theorem dX0_body_1 : decode cX0_body 1 = .ok (.iconst 0, 1) := dk_3 (dk_at dksX0_body_0 1 rfl rfl)
theorem dX0_body_2 : decode cX0_body 2 = .ok (.bipush 7, 2) := dk_16 7 (dk_at dksX0_body_0 2 rfl rfl)
theorem dX0_body_4 : decode cX0_body 4 = .ok (.invokestatic 91, 3) := dk_184 0 91 (dk_at dksX0_body_0 4 rfl rfl)
theorem dX0_body_7 : decode cX0_body 7 = .ok (.ifCond .ne 5, 3) := dk_154 0 5 (dk_at dksX0_body_0 7 rfl rfl)
theorem dX0_body_10 : decode cX0_body 10 = .ok (.iconst (-1), 1) := dk_2 (dk_at dksX0_body_0 10 rfl rfl)
theorem dX0_body_11 : decode cX0_body 11 = .ok (.ireturn, 1) := dk_172 (dk_at dksX0_body_0 11 rfl rfl)
theorem dX0_body_12 : decode cX0_body 12 = .ok (.aload_n 0, 1) := dk_42 (dk_at dksX0_body_0 12 rfl rfl)
theorem dX0_body_13 : decode cX0_body 13 = .ok (.getfield 393, 3) := dk_180 1 137 (dk_at dksX0_body_0 13 rfl rfl)
theorem dX0_body_16 : decode cX0_body 16 = .ok (.bipush 50, 2) := dk_16 50 (dk_at dksX0_body_0 16 rfl rfl)
theorem dX0_body_18 : decode cX0_body 18 = .ok (.if_icmp .ne 6, 3) := dk_160 0 6 (dk_at dksX0_body_0 18 rfl rfl)
theorem dX0_body_21 : decode cX0_body 21 = .ok (.bipush (-3), 2) := dk_16 253 (dk_at dksX0_body_0 21 rfl rfl)
theorem dX0_body_23 : decode cX0_body 23 = .ok (.ireturn, 1) := dk_172 (dk_at dksX0_body_0 23 rfl rfl)
theorem dX0_body_24 : decode cX0_body 24 = .ok (.aload_n 0, 1) := dk_42 (dk_at dksX0_body_1 0 rfl rfl)
theorem dX0_body_25 : decode cX0_body 25 = .ok (.getfield 78, 3) := dk_180 0 78 (dk_at dksX0_body_1 1 rfl rfl)
theorem dX0_body_28 : decode cX0_body 28 = .ok (.aload_n 0, 1) := dk_42 (dk_at dksX0_body_1 4 rfl rfl)
theorem dX0_body_29 : decode cX0_body 29 = .ok (.getfield 393, 3) := dk_180 1 137 (dk_at dksX0_body_1 5 rfl rfl)
theorem dX0_body_32 : decode cX0_body 32 = .ok (.aload_n 0, 1) := dk_42 (dk_at dksX0_body_1 8 rfl rfl)
theorem dX0_body_33 : decode cX0_body 33 = .ok (.iload_n 1, 1) := dk_27 (dk_at dksX0_body_1 9 rfl rfl)
theorem dX0_body_34 : decode cX0_body 34 = .ok (.invokevirtual 420, 3) := dk_182 1 164 (dk_at dksX0_body_1 10 rfl rfl)
theorem dX0_body_37 : decode cX0_body 37 = .ok (.aastore, 1) := dk_83 (dk_at dksX0_body_1 13 rfl rfl)
theorem dX0_body_38 : decode cX0_body 38 = .ok (.aload_n 0, 1) := dk_42 (dk_at dksX0_body_1 14 rfl rfl)
theorem dX0_body_39 : decode cX0_body 39 = .ok (.dup, 1) := dk_89 (dk_at dksX0_body_1 15 rfl rfl)
theorem dX0_body_40 : decode cX0_body 40 = .ok (.getfield 393, 3) := dk_180 1 137 (dk_at dksX0_body_1 16 rfl rfl)
theorem dX0_body_43 : decode cX0_body 43 = .ok (.iconst 1, 1) := dk_4 (dk_at dksX0_body_1 19 rfl rfl)
theorem dX0_body_44 : decode cX0_body 44 = .ok (.iadd, 1) := dk_96 (dk_at dksX0_body_1 20 rfl rfl)
theorem dX0_body_45 : decode cX0_body 45 = .ok (.putfield 393, 3) := dk_181 1 137 (dk_at dksX0_body_1 21 rfl rfl)
theorem dX0_body_48 : decode cX0_body 48 = .ok (.aload_n 0, 1) := dk_42 (dk_at dksX0_body_2 0 rfl rfl)
theorem dX0_body_49 : decode cX0_body 49 = .ok (.getfield 393, 3) := dk_180 1 137 (dk_at dksX0_body_2 1 rfl rfl)
theorem dX0_body_52 : decode cX0_body 52 = .ok (.iconst 1, 1) := dk_4 (dk_at dksX0_body_2 4 rfl rfl)
theorem dX0_body_53 : decode cX0_body 53 = .ok (.isub, 1) := dk_100 (dk_at dksX0_body_2 5 rfl rfl)
theorem dX0_body_54 : decode cX0_body 54 = .ok (.ireturn, 1) := dk_172 (dk_at dksX0_body_2 6 rfl rfl)
abbrev cX0_made : ByteArray := prog_1_method_46_code
def yX0_made : MethodName := ⟨RX0, "made", "(I)LSpeaksInTurn$Plain;"⟩
def dkwX0_made_6 : List UInt8 := [187, 0, 76, 89, 42, 42, 180, 1, 137, 183, 1, 163, 176]
abbrev dktX0_made_6 : List UInt8 := dkwX0_made_6 ++ []
def dkwX0_made_5 : List UInt8 := [42, 42, 180, 1, 137, 183, 1, 159, 176, 187, 1, 160, 89, 42, 42, 180, 1, 137, 183, 1, 162, 176]
abbrev dktX0_made_5 : List UInt8 := dkwX0_made_5 ++ dktX0_made_6
def dkwX0_made_4 : List UInt8 := [180, 1, 137, 183, 1, 153, 176, 187, 1, 154, 89, 42, 42, 180, 1, 137, 183, 1, 156, 176, 187, 1, 157, 89]
abbrev dktX0_made_4 : List UInt8 := dkwX0_made_4 ++ dktX0_made_5
def dkwX0_made_3 : List UInt8 := [183, 1, 147, 176, 187, 1, 148, 89, 42, 42, 180, 1, 137, 183, 1, 150, 176, 187, 1, 151, 89, 42, 42]
abbrev dktX0_made_3 : List UInt8 := dkwX0_made_3 ++ dktX0_made_4
def dkwX0_made_2 : List UInt8 := [187, 1, 140, 89, 42, 42, 180, 1, 137, 183, 1, 142, 176, 187, 1, 145, 89, 42, 42, 180, 1, 137]
abbrev dktX0_made_2 : List UInt8 := dkwX0_made_2 ++ dktX0_made_3
def dkwX0_made_1 : List UInt8 := [170, 0, 0, 0, 0, 0, 134, 0, 0, 0, 1, 0, 0, 0, 7, 0, 0, 0, 43, 0, 0, 0, 56, 0, 0, 0, 69, 0, 0, 0, 82, 0, 0, 0, 95, 0, 0, 0, 108, 0, 0, 0, 121]
abbrev dktX0_made_1 : List UInt8 := dkwX0_made_1 ++ dktX0_made_2
def dkwX0_made_0 : List UInt8 := [27]
abbrev dktX0_made_0 : List UInt8 := dkwX0_made_0 ++ dktX0_made_1
theorem dksX0_made_0 : cX0_made.data.toList.drop 0 = dktX0_made_0 := by decide +kernel
theorem dksX0_made_1 : cX0_made.data.toList.drop 1 = dktX0_made_1 := dk_seg dksX0_made_0 1 rfl rfl
theorem dksX0_made_2 : cX0_made.data.toList.drop 44 = dktX0_made_2 := dk_seg dksX0_made_1 43 rfl rfl
theorem dksX0_made_3 : cX0_made.data.toList.drop 66 = dktX0_made_3 := dk_seg dksX0_made_2 22 rfl rfl
theorem dksX0_made_4 : cX0_made.data.toList.drop 89 = dktX0_made_4 := dk_seg dksX0_made_3 23 rfl rfl
theorem dksX0_made_5 : cX0_made.data.toList.drop 113 = dktX0_made_5 := dk_seg dksX0_made_4 24 rfl rfl
theorem dksX0_made_6 : cX0_made.data.toList.drop 135 = dktX0_made_6 := dk_seg dksX0_made_5 22 rfl rfl
theorem dX0_made_0 : decode cX0_made 0 = .ok (.iload_n 1, 1) := dk_27 (dk_at dksX0_made_0 0 rfl rfl)
theorem dX0_made_1 : decode cX0_made 1 = .ok (.tableswitch 134 1 7 #[43, 56, 69, 82, 95, 108, 121], 43) := by decide +kernel
theorem dX0_made_44 : decode cX0_made 44 = .ok (.new 396, 3) := dk_187 1 140 (dk_at dksX0_made_2 0 rfl rfl)
theorem dX0_made_47 : decode cX0_made 47 = .ok (.dup, 1) := dk_89 (dk_at dksX0_made_2 3 rfl rfl)
theorem dX0_made_48 : decode cX0_made 48 = .ok (.aload_n 0, 1) := dk_42 (dk_at dksX0_made_2 4 rfl rfl)
theorem dX0_made_49 : decode cX0_made 49 = .ok (.aload_n 0, 1) := dk_42 (dk_at dksX0_made_2 5 rfl rfl)
theorem dX0_made_50 : decode cX0_made 50 = .ok (.getfield 393, 3) := dk_180 1 137 (dk_at dksX0_made_2 6 rfl rfl)
theorem dX0_made_53 : decode cX0_made 53 = .ok (.invokespecial 398, 3) := dk_183 1 142 (dk_at dksX0_made_2 9 rfl rfl)
theorem dX0_made_56 : decode cX0_made 56 = .ok (.areturn, 1) := dk_176 (dk_at dksX0_made_2 12 rfl rfl)
theorem dX0_made_57 : decode cX0_made 57 = .ok (.new 401, 3) := dk_187 1 145 (dk_at dksX0_made_2 13 rfl rfl)
theorem dX0_made_60 : decode cX0_made 60 = .ok (.dup, 1) := dk_89 (dk_at dksX0_made_2 16 rfl rfl)
theorem dX0_made_61 : decode cX0_made 61 = .ok (.aload_n 0, 1) := dk_42 (dk_at dksX0_made_2 17 rfl rfl)
theorem dX0_made_62 : decode cX0_made 62 = .ok (.aload_n 0, 1) := dk_42 (dk_at dksX0_made_2 18 rfl rfl)
theorem dX0_made_63 : decode cX0_made 63 = .ok (.getfield 393, 3) := dk_180 1 137 (dk_at dksX0_made_2 19 rfl rfl)
theorem dX0_made_66 : decode cX0_made 66 = .ok (.invokespecial 403, 3) := dk_183 1 147 (dk_at dksX0_made_3 0 rfl rfl)
theorem dX0_made_69 : decode cX0_made 69 = .ok (.areturn, 1) := dk_176 (dk_at dksX0_made_3 3 rfl rfl)
theorem dX0_made_70 : decode cX0_made 70 = .ok (.new 404, 3) := dk_187 1 148 (dk_at dksX0_made_3 4 rfl rfl)
theorem dX0_made_73 : decode cX0_made 73 = .ok (.dup, 1) := dk_89 (dk_at dksX0_made_3 7 rfl rfl)
theorem dX0_made_74 : decode cX0_made 74 = .ok (.aload_n 0, 1) := dk_42 (dk_at dksX0_made_3 8 rfl rfl)
theorem dX0_made_75 : decode cX0_made 75 = .ok (.aload_n 0, 1) := dk_42 (dk_at dksX0_made_3 9 rfl rfl)
theorem dX0_made_76 : decode cX0_made 76 = .ok (.getfield 393, 3) := dk_180 1 137 (dk_at dksX0_made_3 10 rfl rfl)
theorem dX0_made_79 : decode cX0_made 79 = .ok (.invokespecial 406, 3) := dk_183 1 150 (dk_at dksX0_made_3 13 rfl rfl)
theorem dX0_made_82 : decode cX0_made 82 = .ok (.areturn, 1) := dk_176 (dk_at dksX0_made_3 16 rfl rfl)
theorem dX0_made_83 : decode cX0_made 83 = .ok (.new 407, 3) := dk_187 1 151 (dk_at dksX0_made_3 17 rfl rfl)
theorem dX0_made_86 : decode cX0_made 86 = .ok (.dup, 1) := dk_89 (dk_at dksX0_made_3 20 rfl rfl)
theorem dX0_made_87 : decode cX0_made 87 = .ok (.aload_n 0, 1) := dk_42 (dk_at dksX0_made_3 21 rfl rfl)
theorem dX0_made_88 : decode cX0_made 88 = .ok (.aload_n 0, 1) := dk_42 (dk_at dksX0_made_3 22 rfl rfl)
theorem dX0_made_89 : decode cX0_made 89 = .ok (.getfield 393, 3) := dk_180 1 137 (dk_at dksX0_made_4 0 rfl rfl)
theorem dX0_made_92 : decode cX0_made 92 = .ok (.invokespecial 409, 3) := dk_183 1 153 (dk_at dksX0_made_4 3 rfl rfl)
theorem dX0_made_95 : decode cX0_made 95 = .ok (.areturn, 1) := dk_176 (dk_at dksX0_made_4 6 rfl rfl)
theorem dX0_made_96 : decode cX0_made 96 = .ok (.new 410, 3) := dk_187 1 154 (dk_at dksX0_made_4 7 rfl rfl)
theorem dX0_made_99 : decode cX0_made 99 = .ok (.dup, 1) := dk_89 (dk_at dksX0_made_4 10 rfl rfl)
theorem dX0_made_100 : decode cX0_made 100 = .ok (.aload_n 0, 1) := dk_42 (dk_at dksX0_made_4 11 rfl rfl)
theorem dX0_made_101 : decode cX0_made 101 = .ok (.aload_n 0, 1) := dk_42 (dk_at dksX0_made_4 12 rfl rfl)
theorem dX0_made_102 : decode cX0_made 102 = .ok (.getfield 393, 3) := dk_180 1 137 (dk_at dksX0_made_4 13 rfl rfl)
theorem dX0_made_105 : decode cX0_made 105 = .ok (.invokespecial 412, 3) := dk_183 1 156 (dk_at dksX0_made_4 16 rfl rfl)
theorem dX0_made_108 : decode cX0_made 108 = .ok (.areturn, 1) := dk_176 (dk_at dksX0_made_4 19 rfl rfl)
theorem dX0_made_109 : decode cX0_made 109 = .ok (.new 413, 3) := dk_187 1 157 (dk_at dksX0_made_4 20 rfl rfl)
theorem dX0_made_112 : decode cX0_made 112 = .ok (.dup, 1) := dk_89 (dk_at dksX0_made_4 23 rfl rfl)
theorem dX0_made_113 : decode cX0_made 113 = .ok (.aload_n 0, 1) := dk_42 (dk_at dksX0_made_5 0 rfl rfl)
theorem dX0_made_114 : decode cX0_made 114 = .ok (.aload_n 0, 1) := dk_42 (dk_at dksX0_made_5 1 rfl rfl)
theorem dX0_made_115 : decode cX0_made 115 = .ok (.getfield 393, 3) := dk_180 1 137 (dk_at dksX0_made_5 2 rfl rfl)
theorem dX0_made_118 : decode cX0_made 118 = .ok (.invokespecial 415, 3) := dk_183 1 159 (dk_at dksX0_made_5 5 rfl rfl)
theorem dX0_made_121 : decode cX0_made 121 = .ok (.areturn, 1) := dk_176 (dk_at dksX0_made_5 8 rfl rfl)
theorem dX0_made_122 : decode cX0_made 122 = .ok (.new 416, 3) := dk_187 1 160 (dk_at dksX0_made_5 9 rfl rfl)
theorem dX0_made_125 : decode cX0_made 125 = .ok (.dup, 1) := dk_89 (dk_at dksX0_made_5 12 rfl rfl)
theorem dX0_made_126 : decode cX0_made 126 = .ok (.aload_n 0, 1) := dk_42 (dk_at dksX0_made_5 13 rfl rfl)
theorem dX0_made_127 : decode cX0_made 127 = .ok (.aload_n 0, 1) := dk_42 (dk_at dksX0_made_5 14 rfl rfl)
theorem dX0_made_128 : decode cX0_made 128 = .ok (.getfield 393, 3) := dk_180 1 137 (dk_at dksX0_made_5 15 rfl rfl)
theorem dX0_made_131 : decode cX0_made 131 = .ok (.invokespecial 418, 3) := dk_183 1 162 (dk_at dksX0_made_5 18 rfl rfl)
theorem dX0_made_134 : decode cX0_made 134 = .ok (.areturn, 1) := dk_176 (dk_at dksX0_made_5 21 rfl rfl)
theorem dX0_made_135 : decode cX0_made 135 = .ok (.new 76, 3) := dk_187 0 76 (dk_at dksX0_made_6 0 rfl rfl)
theorem dX0_made_138 : decode cX0_made 138 = .ok (.dup, 1) := dk_89 (dk_at dksX0_made_6 3 rfl rfl)
theorem dX0_made_139 : decode cX0_made 139 = .ok (.aload_n 0, 1) := dk_42 (dk_at dksX0_made_6 4 rfl rfl)
theorem dX0_made_140 : decode cX0_made 140 = .ok (.aload_n 0, 1) := dk_42 (dk_at dksX0_made_6 5 rfl rfl)
theorem dX0_made_141 : decode cX0_made 141 = .ok (.getfield 393, 3) := dk_180 1 137 (dk_at dksX0_made_6 6 rfl rfl)
theorem dX0_made_144 : decode cX0_made 144 = .ok (.invokespecial 419, 3) := dk_183 1 163 (dk_at dksX0_made_6 9 rfl rfl)
theorem dX0_made_147 : decode cX0_made 147 = .ok (.areturn, 1) := dk_176 (dk_at dksX0_made_6 12 rfl rfl)
abbrev cX0_act : ByteArray := prog_1_method_49_code
def yX0_act : MethodName := ⟨RX0, "act", "(III)I"⟩
def dkwX0_act_3 : List UInt8 := [25, 4, 29, 182, 1, 181, 167, 0, 9, 25, 4, 29, 182, 1, 184, 172]
abbrev dktX0_act_3 : List UInt8 := dkwX0_act_3 ++ []
def dkwX0_act_2 : List UInt8 := [172, 28, 6, 160, 0, 16, 25, 4, 58, 5, 25, 5, 29, 185, 1, 176, 2, 0, 172, 28, 4, 160, 0, 12]
abbrev dktX0_act_2 : List UInt8 := dkwX0_act_2 ++ dktX0_act_3
def dkwX0_act_1 : List UInt8 := [42, 180, 0, 78, 27, 50, 58, 4, 28, 154, 0, 16, 25, 4, 58, 5, 25, 5, 29, 185, 1, 171, 2, 0]
abbrev dktX0_act_1 : List UInt8 := dkwX0_act_1 ++ dktX0_act_2
def dkwX0_act_0 : List UInt8 := [42, 3, 181, 1, 134, 42, 27, 182, 1, 168, 153, 0, 12, 28, 3, 6, 184, 0, 91, 154, 0, 5, 3, 172]
abbrev dktX0_act_0 : List UInt8 := dkwX0_act_0 ++ dktX0_act_1
theorem dksX0_act_0 : cX0_act.data.toList.drop 0 = dktX0_act_0 := by decide +kernel
theorem dksX0_act_1 : cX0_act.data.toList.drop 24 = dktX0_act_1 := dk_seg dksX0_act_0 24 rfl rfl
theorem dksX0_act_2 : cX0_act.data.toList.drop 48 = dktX0_act_2 := dk_seg dksX0_act_1 24 rfl rfl
theorem dksX0_act_3 : cX0_act.data.toList.drop 72 = dktX0_act_3 := dk_seg dksX0_act_2 24 rfl rfl
theorem dX0_act_0 : decode cX0_act 0 = .ok (.aload_n 0, 1) := dk_42 (dk_at dksX0_act_0 0 rfl rfl)
theorem dX0_act_1 : decode cX0_act 1 = .ok (.iconst 0, 1) := dk_3 (dk_at dksX0_act_0 1 rfl rfl)
theorem dX0_act_2 : decode cX0_act 2 = .ok (.putfield 390, 3) := dk_181 1 134 (dk_at dksX0_act_0 2 rfl rfl)
theorem dX0_act_5 : decode cX0_act 5 = .ok (.aload_n 0, 1) := dk_42 (dk_at dksX0_act_0 5 rfl rfl)
theorem dX0_act_6 : decode cX0_act 6 = .ok (.iload_n 1, 1) := dk_27 (dk_at dksX0_act_0 6 rfl rfl)
theorem dX0_act_7 : decode cX0_act 7 = .ok (.invokevirtual 424, 3) := dk_182 1 168 (dk_at dksX0_act_0 7 rfl rfl)
theorem dX0_act_10 : decode cX0_act 10 = .ok (.ifCond .eq 12, 3) := dk_153 0 12 (dk_at dksX0_act_0 10 rfl rfl)
theorem dX0_act_13 : decode cX0_act 13 = .ok (.iload_n 2, 1) := dk_28 (dk_at dksX0_act_0 13 rfl rfl)
theorem dX0_act_14 : decode cX0_act 14 = .ok (.iconst 0, 1) := dk_3 (dk_at dksX0_act_0 14 rfl rfl)
theorem dX0_act_15 : decode cX0_act 15 = .ok (.iconst 3, 1) := dk_6 (dk_at dksX0_act_0 15 rfl rfl)
theorem dX0_act_16 : decode cX0_act 16 = .ok (.invokestatic 91, 3) := dk_184 0 91 (dk_at dksX0_act_0 16 rfl rfl)
theorem dX0_act_19 : decode cX0_act 19 = .ok (.ifCond .ne 5, 3) := dk_154 0 5 (dk_at dksX0_act_0 19 rfl rfl)
theorem dX0_act_22 : decode cX0_act 22 = .ok (.iconst 0, 1) := dk_3 (dk_at dksX0_act_0 22 rfl rfl)
theorem dX0_act_23 : decode cX0_act 23 = .ok (.ireturn, 1) := dk_172 (dk_at dksX0_act_0 23 rfl rfl)
theorem dX0_act_24 : decode cX0_act 24 = .ok (.aload_n 0, 1) := dk_42 (dk_at dksX0_act_1 0 rfl rfl)
theorem dX0_act_25 : decode cX0_act 25 = .ok (.getfield 78, 3) := dk_180 0 78 (dk_at dksX0_act_1 1 rfl rfl)
theorem dX0_act_28 : decode cX0_act 28 = .ok (.iload_n 1, 1) := dk_27 (dk_at dksX0_act_1 4 rfl rfl)
theorem dX0_act_29 : decode cX0_act 29 = .ok (.aaload, 1) := dk_50 (dk_at dksX0_act_1 5 rfl rfl)
theorem dX0_act_30 : decode cX0_act 30 = .ok (.astore 4, 2) := dk_58 4 (dk_at dksX0_act_1 6 rfl rfl)
theorem dX0_act_32 : decode cX0_act 32 = .ok (.iload_n 2, 1) := dk_28 (dk_at dksX0_act_1 8 rfl rfl)
theorem dX0_act_33 : decode cX0_act 33 = .ok (.ifCond .ne 16, 3) := dk_154 0 16 (dk_at dksX0_act_1 9 rfl rfl)
theorem dX0_act_36 : decode cX0_act 36 = .ok (.aload 4, 2) := dk_25 4 (dk_at dksX0_act_1 12 rfl rfl)
theorem dX0_act_38 : decode cX0_act 38 = .ok (.astore 5, 2) := dk_58 5 (dk_at dksX0_act_1 14 rfl rfl)
theorem dX0_act_40 : decode cX0_act 40 = .ok (.aload 5, 2) := dk_25 5 (dk_at dksX0_act_1 16 rfl rfl)
theorem dX0_act_42 : decode cX0_act 42 = .ok (.iload_n 3, 1) := dk_29 (dk_at dksX0_act_1 18 rfl rfl)
theorem dX0_act_43 : decode cX0_act 43 = .ok (.invokeinterface 427 2, 5) := by decide +kernel
theorem dX0_act_48 : decode cX0_act 48 = .ok (.ireturn, 1) := dk_172 (dk_at dksX0_act_2 0 rfl rfl)
theorem dX0_act_49 : decode cX0_act 49 = .ok (.iload_n 2, 1) := dk_28 (dk_at dksX0_act_2 1 rfl rfl)
theorem dX0_act_50 : decode cX0_act 50 = .ok (.iconst 3, 1) := dk_6 (dk_at dksX0_act_2 2 rfl rfl)
theorem dX0_act_51 : decode cX0_act 51 = .ok (.if_icmp .ne 16, 3) := dk_160 0 16 (dk_at dksX0_act_2 3 rfl rfl)
theorem dX0_act_54 : decode cX0_act 54 = .ok (.aload 4, 2) := dk_25 4 (dk_at dksX0_act_2 6 rfl rfl)
theorem dX0_act_56 : decode cX0_act 56 = .ok (.astore 5, 2) := dk_58 5 (dk_at dksX0_act_2 8 rfl rfl)
theorem dX0_act_58 : decode cX0_act 58 = .ok (.aload 5, 2) := dk_25 5 (dk_at dksX0_act_2 10 rfl rfl)
theorem dX0_act_60 : decode cX0_act 60 = .ok (.iload_n 3, 1) := dk_29 (dk_at dksX0_act_2 12 rfl rfl)
theorem dX0_act_61 : decode cX0_act 61 = .ok (.invokeinterface 432 2, 5) := by decide +kernel
theorem dX0_act_66 : decode cX0_act 66 = .ok (.ireturn, 1) := dk_172 (dk_at dksX0_act_2 18 rfl rfl)
theorem dX0_act_67 : decode cX0_act 67 = .ok (.iload_n 2, 1) := dk_28 (dk_at dksX0_act_2 19 rfl rfl)
theorem dX0_act_68 : decode cX0_act 68 = .ok (.iconst 1, 1) := dk_4 (dk_at dksX0_act_2 20 rfl rfl)
theorem dX0_act_69 : decode cX0_act 69 = .ok (.if_icmp .ne 12, 3) := dk_160 0 12 (dk_at dksX0_act_2 21 rfl rfl)
theorem dX0_act_72 : decode cX0_act 72 = .ok (.aload 4, 2) := dk_25 4 (dk_at dksX0_act_3 0 rfl rfl)
theorem dX0_act_74 : decode cX0_act 74 = .ok (.iload_n 3, 1) := dk_29 (dk_at dksX0_act_3 2 rfl rfl)
theorem dX0_act_75 : decode cX0_act 75 = .ok (.invokevirtual 437, 3) := dk_182 1 181 (dk_at dksX0_act_3 3 rfl rfl)
theorem dX0_act_78 : decode cX0_act 78 = .ok (.goto 9, 3) := dk_167 0 9 (dk_at dksX0_act_3 6 rfl rfl)
theorem dX0_act_81 : decode cX0_act 81 = .ok (.aload 4, 2) := dk_25 4 (dk_at dksX0_act_3 9 rfl rfl)
theorem dX0_act_83 : decode cX0_act 83 = .ok (.iload_n 3, 1) := dk_29 (dk_at dksX0_act_3 11 rfl rfl)
theorem dX0_act_84 : decode cX0_act 84 = .ok (.invokevirtual 440, 3) := dk_182 1 184 (dk_at dksX0_act_3 12 rfl rfl)
theorem dX0_act_87 : decode cX0_act 87 = .ok (.ireturn, 1) := dk_172 (dk_at dksX0_act_3 15 rfl rfl)
abbrev cX0_isBody : ByteArray := prog_1_method_45_code
def yX0_isBody : MethodName := ⟨RX0, "isBody", "(I)Z"⟩
def dkwX0_isBody_0 : List UInt8 := [27, 3, 42, 180, 1, 137, 4, 100, 184, 0, 91, 172]
abbrev dktX0_isBody_0 : List UInt8 := dkwX0_isBody_0 ++ []
theorem dksX0_isBody_0 : cX0_isBody.data.toList.drop 0 = dktX0_isBody_0 := by decide +kernel
theorem dX0_isBody_0 : decode cX0_isBody 0 = .ok (.iload_n 1, 1) := dk_27 (dk_at dksX0_isBody_0 0 rfl rfl)
theorem dX0_isBody_1 : decode cX0_isBody 1 = .ok (.iconst 0, 1) := dk_3 (dk_at dksX0_isBody_0 1 rfl rfl)
theorem dX0_isBody_2 : decode cX0_isBody 2 = .ok (.aload_n 0, 1) := dk_42 (dk_at dksX0_isBody_0 2 rfl rfl)
theorem dX0_isBody_3 : decode cX0_isBody 3 = .ok (.getfield 393, 3) := dk_180 1 137 (dk_at dksX0_isBody_0 3 rfl rfl)
theorem dX0_isBody_6 : decode cX0_isBody 6 = .ok (.iconst 1, 1) := dk_4 (dk_at dksX0_isBody_0 6 rfl rfl)
theorem dX0_isBody_7 : decode cX0_isBody 7 = .ok (.isub, 1) := dk_100 (dk_at dksX0_isBody_0 7 rfl rfl)
theorem dX0_isBody_8 : decode cX0_isBody 8 = .ok (.invokestatic 91, 3) := dk_184 0 91 (dk_at dksX0_isBody_0 8 rfl rfl)
theorem dX0_isBody_11 : decode cX0_isBody 11 = .ok (.ireturn, 1) := dk_172 (dk_at dksX0_isBody_0 11 rfl rfl)
abbrev cX0_ran : ByteArray := prog_1_method_44_code
def yX0_ran : MethodName := ⟨RX0, "ran", "(I)V"⟩
def dkwX0_ran_1 : List UInt8 := [180, 1, 134, 4, 96, 181, 1, 134, 177]
abbrev dktX0_ran_1 : List UInt8 := dkwX0_ran_1 ++ []
def dkwX0_ran_0 : List UInt8 := [42, 180, 1, 134, 16, 24, 162, 0, 14, 42, 180, 0, 73, 42, 180, 1, 134, 27, 145, 84, 42, 89]
abbrev dktX0_ran_0 : List UInt8 := dkwX0_ran_0 ++ dktX0_ran_1
theorem dksX0_ran_0 : cX0_ran.data.toList.drop 0 = dktX0_ran_0 := by decide +kernel
theorem dksX0_ran_1 : cX0_ran.data.toList.drop 22 = dktX0_ran_1 := dk_seg dksX0_ran_0 22 rfl rfl
theorem dX0_ran_0 : decode cX0_ran 0 = .ok (.aload_n 0, 1) := dk_42 (dk_at dksX0_ran_0 0 rfl rfl)
theorem dX0_ran_1 : decode cX0_ran 1 = .ok (.getfield 390, 3) := dk_180 1 134 (dk_at dksX0_ran_0 1 rfl rfl)
theorem dX0_ran_4 : decode cX0_ran 4 = .ok (.bipush 24, 2) := dk_16 24 (dk_at dksX0_ran_0 4 rfl rfl)
theorem dX0_ran_6 : decode cX0_ran 6 = .ok (.if_icmp .ge 14, 3) := dk_162 0 14 (dk_at dksX0_ran_0 6 rfl rfl)
theorem dX0_ran_9 : decode cX0_ran 9 = .ok (.aload_n 0, 1) := dk_42 (dk_at dksX0_ran_0 9 rfl rfl)
theorem dX0_ran_10 : decode cX0_ran 10 = .ok (.getfield 73, 3) := dk_180 0 73 (dk_at dksX0_ran_0 10 rfl rfl)
theorem dX0_ran_13 : decode cX0_ran 13 = .ok (.aload_n 0, 1) := dk_42 (dk_at dksX0_ran_0 13 rfl rfl)
theorem dX0_ran_14 : decode cX0_ran 14 = .ok (.getfield 390, 3) := dk_180 1 134 (dk_at dksX0_ran_0 14 rfl rfl)
theorem dX0_ran_17 : decode cX0_ran 17 = .ok (.iload_n 1, 1) := dk_27 (dk_at dksX0_ran_0 17 rfl rfl)
theorem dX0_ran_18 : decode cX0_ran 18 = .ok (.i2b, 1) := dk_145 (dk_at dksX0_ran_0 18 rfl rfl)
theorem dX0_ran_19 : decode cX0_ran 19 = .ok (.bastore, 1) := dk_84 (dk_at dksX0_ran_0 19 rfl rfl)
theorem dX0_ran_20 : decode cX0_ran 20 = .ok (.aload_n 0, 1) := dk_42 (dk_at dksX0_ran_0 20 rfl rfl)
theorem dX0_ran_21 : decode cX0_ran 21 = .ok (.dup, 1) := dk_89 (dk_at dksX0_ran_0 21 rfl rfl)
theorem dX0_ran_22 : decode cX0_ran 22 = .ok (.getfield 390, 3) := dk_180 1 134 (dk_at dksX0_ran_1 0 rfl rfl)
theorem dX0_ran_25 : decode cX0_ran 25 = .ok (.iconst 1, 1) := dk_4 (dk_at dksX0_ran_1 3 rfl rfl)
theorem dX0_ran_26 : decode cX0_ran 26 = .ok (.iadd, 1) := dk_96 (dk_at dksX0_ran_1 4 rfl rfl)
theorem dX0_ran_27 : decode cX0_ran 27 = .ok (.putfield 390, 3) := dk_181 1 134 (dk_at dksX0_ran_1 5 rfl rfl)
theorem dX0_ran_30 : decode cX0_ran 30 = .ok (.return_, 1) := dk_177 (dk_at dksX0_ran_1 8 rfl rfl)
abbrev cX0_trace : ByteArray := prog_1_method_50_code
def yX0_trace : MethodName := ⟨RX0, "trace", "(I)I"⟩
def dkwX0_trace_1 : List UInt8 := [167, 0, 4, 2, 172]
abbrev dktX0_trace_1 : List UInt8 := dkwX0_trace_1 ++ []
def dkwX0_trace_0 : List UInt8 := [27, 155, 0, 26, 27, 42, 180, 1, 134, 162, 0, 18, 27, 16, 24, 162, 0, 12, 42, 180, 0, 73, 27, 51]
abbrev dktX0_trace_0 : List UInt8 := dkwX0_trace_0 ++ dktX0_trace_1
theorem dksX0_trace_0 : cX0_trace.data.toList.drop 0 = dktX0_trace_0 := by decide +kernel
theorem dksX0_trace_1 : cX0_trace.data.toList.drop 24 = dktX0_trace_1 := dk_seg dksX0_trace_0 24 rfl rfl
theorem dX0_trace_0 : decode cX0_trace 0 = .ok (.iload_n 1, 1) := dk_27 (dk_at dksX0_trace_0 0 rfl rfl)
theorem dX0_trace_1 : decode cX0_trace 1 = .ok (.ifCond .lt 26, 3) := dk_155 0 26 (dk_at dksX0_trace_0 1 rfl rfl)
theorem dX0_trace_4 : decode cX0_trace 4 = .ok (.iload_n 1, 1) := dk_27 (dk_at dksX0_trace_0 4 rfl rfl)
theorem dX0_trace_5 : decode cX0_trace 5 = .ok (.aload_n 0, 1) := dk_42 (dk_at dksX0_trace_0 5 rfl rfl)
theorem dX0_trace_6 : decode cX0_trace 6 = .ok (.getfield 390, 3) := dk_180 1 134 (dk_at dksX0_trace_0 6 rfl rfl)
theorem dX0_trace_9 : decode cX0_trace 9 = .ok (.if_icmp .ge 18, 3) := dk_162 0 18 (dk_at dksX0_trace_0 9 rfl rfl)
theorem dX0_trace_12 : decode cX0_trace 12 = .ok (.iload_n 1, 1) := dk_27 (dk_at dksX0_trace_0 12 rfl rfl)
theorem dX0_trace_13 : decode cX0_trace 13 = .ok (.bipush 24, 2) := dk_16 24 (dk_at dksX0_trace_0 13 rfl rfl)
theorem dX0_trace_15 : decode cX0_trace 15 = .ok (.if_icmp .ge 12, 3) := dk_162 0 12 (dk_at dksX0_trace_0 15 rfl rfl)
theorem dX0_trace_18 : decode cX0_trace 18 = .ok (.aload_n 0, 1) := dk_42 (dk_at dksX0_trace_0 18 rfl rfl)
theorem dX0_trace_19 : decode cX0_trace 19 = .ok (.getfield 73, 3) := dk_180 0 73 (dk_at dksX0_trace_0 19 rfl rfl)
theorem dX0_trace_22 : decode cX0_trace 22 = .ok (.iload_n 1, 1) := dk_27 (dk_at dksX0_trace_0 22 rfl rfl)
theorem dX0_trace_23 : decode cX0_trace 23 = .ok (.baload, 1) := dk_51 (dk_at dksX0_trace_0 23 rfl rfl)
theorem dX0_trace_24 : decode cX0_trace 24 = .ok (.goto 4, 3) := dk_167 0 4 (dk_at dksX0_trace_1 0 rfl rfl)
theorem dX0_trace_27 : decode cX0_trace 27 = .ok (.iconst (-1), 1) := dk_2 (dk_at dksX0_trace_1 3 rfl rfl)
theorem dX0_trace_28 : decode cX0_trace 28 = .ok (.ireturn, 1) := dk_172 (dk_at dksX0_trace_1 4 rfl rfl)
abbrev cX0_keep : ByteArray := prog_1_method_51_code
def yX0_keep : MethodName := ⟨RX0, "keep", "(II)I"⟩
def dkwX0_keep_1 : List UInt8 := [180, 0, 84, 27, 28, 156, 0, 7, 1, 167, 0, 9, 42, 180, 0, 78, 28, 50, 83, 4, 172]
abbrev dktX0_keep_1 : List UInt8 := dkwX0_keep_1 ++ []
def dkwX0_keep_0 : List UInt8 := [27, 184, 0, 121, 153, 0, 16, 28, 2, 159, 0, 13, 42, 28, 182, 1, 168, 154, 0, 5, 2, 172, 42]
abbrev dktX0_keep_0 : List UInt8 := dkwX0_keep_0 ++ dktX0_keep_1
theorem dksX0_keep_0 : cX0_keep.data.toList.drop 0 = dktX0_keep_0 := by decide +kernel
theorem dksX0_keep_1 : cX0_keep.data.toList.drop 23 = dktX0_keep_1 := dk_seg dksX0_keep_0 23 rfl rfl
theorem dX0_keep_0 : decode cX0_keep 0 = .ok (.iload_n 1, 1) := dk_27 (dk_at dksX0_keep_0 0 rfl rfl)
theorem dX0_keep_1 : decode cX0_keep 1 = .ok (.invokestatic 121, 3) := dk_184 0 121 (dk_at dksX0_keep_0 1 rfl rfl)
theorem dX0_keep_4 : decode cX0_keep 4 = .ok (.ifCond .eq 16, 3) := dk_153 0 16 (dk_at dksX0_keep_0 4 rfl rfl)
theorem dX0_keep_7 : decode cX0_keep 7 = .ok (.iload_n 2, 1) := dk_28 (dk_at dksX0_keep_0 7 rfl rfl)
theorem dX0_keep_8 : decode cX0_keep 8 = .ok (.iconst (-1), 1) := dk_2 (dk_at dksX0_keep_0 8 rfl rfl)
theorem dX0_keep_9 : decode cX0_keep 9 = .ok (.if_icmp .eq 13, 3) := dk_159 0 13 (dk_at dksX0_keep_0 9 rfl rfl)
theorem dX0_keep_12 : decode cX0_keep 12 = .ok (.aload_n 0, 1) := dk_42 (dk_at dksX0_keep_0 12 rfl rfl)
theorem dX0_keep_13 : decode cX0_keep 13 = .ok (.iload_n 2, 1) := dk_28 (dk_at dksX0_keep_0 13 rfl rfl)
theorem dX0_keep_14 : decode cX0_keep 14 = .ok (.invokevirtual 424, 3) := dk_182 1 168 (dk_at dksX0_keep_0 14 rfl rfl)
theorem dX0_keep_17 : decode cX0_keep 17 = .ok (.ifCond .ne 5, 3) := dk_154 0 5 (dk_at dksX0_keep_0 17 rfl rfl)
theorem dX0_keep_20 : decode cX0_keep 20 = .ok (.iconst (-1), 1) := dk_2 (dk_at dksX0_keep_0 20 rfl rfl)
theorem dX0_keep_21 : decode cX0_keep 21 = .ok (.ireturn, 1) := dk_172 (dk_at dksX0_keep_0 21 rfl rfl)
theorem dX0_keep_22 : decode cX0_keep 22 = .ok (.aload_n 0, 1) := dk_42 (dk_at dksX0_keep_0 22 rfl rfl)
theorem dX0_keep_23 : decode cX0_keep 23 = .ok (.getfield 84, 3) := dk_180 0 84 (dk_at dksX0_keep_1 0 rfl rfl)
theorem dX0_keep_26 : decode cX0_keep 26 = .ok (.iload_n 1, 1) := dk_27 (dk_at dksX0_keep_1 3 rfl rfl)
theorem dX0_keep_27 : decode cX0_keep 27 = .ok (.iload_n 2, 1) := dk_28 (dk_at dksX0_keep_1 4 rfl rfl)
theorem dX0_keep_28 : decode cX0_keep 28 = .ok (.ifCond .ge 7, 3) := dk_156 0 7 (dk_at dksX0_keep_1 5 rfl rfl)
theorem dX0_keep_31 : decode cX0_keep 31 = .ok (.aconst_null, 1) := dk_1 (dk_at dksX0_keep_1 8 rfl rfl)
theorem dX0_keep_32 : decode cX0_keep 32 = .ok (.goto 9, 3) := dk_167 0 9 (dk_at dksX0_keep_1 9 rfl rfl)
theorem dX0_keep_35 : decode cX0_keep 35 = .ok (.aload_n 0, 1) := dk_42 (dk_at dksX0_keep_1 12 rfl rfl)
theorem dX0_keep_36 : decode cX0_keep 36 = .ok (.getfield 78, 3) := dk_180 0 78 (dk_at dksX0_keep_1 13 rfl rfl)
theorem dX0_keep_39 : decode cX0_keep 39 = .ok (.iload_n 2, 1) := dk_28 (dk_at dksX0_keep_1 16 rfl rfl)
theorem dX0_keep_40 : decode cX0_keep 40 = .ok (.aaload, 1) := dk_50 (dk_at dksX0_keep_1 17 rfl rfl)
theorem dX0_keep_41 : decode cX0_keep 41 = .ok (.aastore, 1) := dk_83 (dk_at dksX0_keep_1 18 rfl rfl)
theorem dX0_keep_42 : decode cX0_keep 42 = .ok (.iconst 1, 1) := dk_4 (dk_at dksX0_keep_1 19 rfl rfl)
theorem dX0_keep_43 : decode cX0_keep 43 = .ok (.ireturn, 1) := dk_172 (dk_at dksX0_keep_1 20 rfl rfl)
abbrev cX0_row : ByteArray := prog_1_method_53_code
def yX0_row : MethodName := ⟨RX0, "row", "(III)I"⟩
def dkwX0_row_1 : List UInt8 := [42, 180, 0, 84, 27, 28, 29, 184, 1, 198, 83, 167, 0, 8, 58, 4, 16, 242, 172, 4, 172]
abbrev dktX0_row_1 : List UInt8 := dkwX0_row_1 ++ []
def dkwX0_row_0 : List UInt8 := [27, 184, 0, 121, 153, 0, 18, 28, 3, 7, 184, 0, 91, 153, 0, 9, 29, 16, 60, 164, 0, 5, 2, 172]
abbrev dktX0_row_0 : List UInt8 := dkwX0_row_0 ++ dktX0_row_1
theorem dksX0_row_0 : cX0_row.data.toList.drop 0 = dktX0_row_0 := by decide +kernel
theorem dksX0_row_1 : cX0_row.data.toList.drop 24 = dktX0_row_1 := dk_seg dksX0_row_0 24 rfl rfl
theorem dX0_row_0 : decode cX0_row 0 = .ok (.iload_n 1, 1) := dk_27 (dk_at dksX0_row_0 0 rfl rfl)
theorem dX0_row_1 : decode cX0_row 1 = .ok (.invokestatic 121, 3) := dk_184 0 121 (dk_at dksX0_row_0 1 rfl rfl)
theorem dX0_row_4 : decode cX0_row 4 = .ok (.ifCond .eq 18, 3) := dk_153 0 18 (dk_at dksX0_row_0 4 rfl rfl)
theorem dX0_row_7 : decode cX0_row 7 = .ok (.iload_n 2, 1) := dk_28 (dk_at dksX0_row_0 7 rfl rfl)
theorem dX0_row_8 : decode cX0_row 8 = .ok (.iconst 0, 1) := dk_3 (dk_at dksX0_row_0 8 rfl rfl)
theorem dX0_row_9 : decode cX0_row 9 = .ok (.iconst 4, 1) := dk_7 (dk_at dksX0_row_0 9 rfl rfl)
theorem dX0_row_10 : decode cX0_row 10 = .ok (.invokestatic 91, 3) := dk_184 0 91 (dk_at dksX0_row_0 10 rfl rfl)
theorem dX0_row_13 : decode cX0_row 13 = .ok (.ifCond .eq 9, 3) := dk_153 0 9 (dk_at dksX0_row_0 13 rfl rfl)
theorem dX0_row_16 : decode cX0_row 16 = .ok (.iload_n 3, 1) := dk_29 (dk_at dksX0_row_0 16 rfl rfl)
theorem dX0_row_17 : decode cX0_row 17 = .ok (.bipush 60, 2) := dk_16 60 (dk_at dksX0_row_0 17 rfl rfl)
theorem dX0_row_19 : decode cX0_row 19 = .ok (.if_icmp .le 5, 3) := dk_164 0 5 (dk_at dksX0_row_0 19 rfl rfl)
theorem dX0_row_22 : decode cX0_row 22 = .ok (.iconst (-1), 1) := dk_2 (dk_at dksX0_row_0 22 rfl rfl)
theorem dX0_row_23 : decode cX0_row 23 = .ok (.ireturn, 1) := dk_172 (dk_at dksX0_row_0 23 rfl rfl)
theorem dX0_row_24 : decode cX0_row 24 = .ok (.aload_n 0, 1) := dk_42 (dk_at dksX0_row_1 0 rfl rfl)
theorem dX0_row_25 : decode cX0_row 25 = .ok (.getfield 84, 3) := dk_180 0 84 (dk_at dksX0_row_1 1 rfl rfl)
theorem dX0_row_28 : decode cX0_row 28 = .ok (.iload_n 1, 1) := dk_27 (dk_at dksX0_row_1 4 rfl rfl)
theorem dX0_row_29 : decode cX0_row 29 = .ok (.iload_n 2, 1) := dk_28 (dk_at dksX0_row_1 5 rfl rfl)
theorem dX0_row_30 : decode cX0_row 30 = .ok (.iload_n 3, 1) := dk_29 (dk_at dksX0_row_1 6 rfl rfl)
theorem dX0_row_31 : decode cX0_row 31 = .ok (.invokestatic 454, 3) := dk_184 1 198 (dk_at dksX0_row_1 7 rfl rfl)
theorem dX0_row_34 : decode cX0_row 34 = .ok (.aastore, 1) := dk_83 (dk_at dksX0_row_1 10 rfl rfl)
theorem dX0_row_35 : decode cX0_row 35 = .ok (.goto 8, 3) := dk_167 0 8 (dk_at dksX0_row_1 11 rfl rfl)
theorem dX0_row_38 : decode cX0_row 38 = .ok (.astore 4, 2) := dk_58 4 (dk_at dksX0_row_1 14 rfl rfl)
theorem dX0_row_40 : decode cX0_row 40 = .ok (.bipush (-14), 2) := dk_16 242 (dk_at dksX0_row_1 16 rfl rfl)
theorem dX0_row_42 : decode cX0_row 42 = .ok (.ireturn, 1) := dk_172 (dk_at dksX0_row_1 18 rfl rfl)
theorem dX0_row_43 : decode cX0_row 43 = .ok (.iconst 1, 1) := dk_4 (dk_at dksX0_row_1 19 rfl rfl)
theorem dX0_row_44 : decode cX0_row 44 = .ok (.ireturn, 1) := dk_172 (dk_at dksX0_row_1 20 rfl rfl)
abbrev cX0_newRow : ByteArray := prog_1_method_52_code
def yX0_newRow : MethodName := ⟨RX0, "newRow", "(II)LSpeaksInTurn$Row;"⟩
def dkwX0_newRow_3 : List UInt8 := [183, 1, 191, 176, 187, 1, 192, 89, 27, 183, 1, 194, 176, 187, 1, 195, 89, 27, 183, 1, 197, 176]
abbrev dktX0_newRow_3 : List UInt8 := dkwX0_newRow_3 ++ []
def dkwX0_newRow_2 : List UInt8 := [187, 1, 118, 89, 27, 183, 1, 186, 176, 187, 0, 124, 89, 27, 183, 1, 188, 176, 187, 1, 189, 89, 27]
abbrev dktX0_newRow_2 : List UInt8 := dkwX0_newRow_2 ++ dktX0_newRow_3
def dkwX0_newRow_1 : List UInt8 := [170, 0, 0, 0, 0, 0, 67, 0, 0, 0, 0, 0, 0, 0, 3, 0, 0, 0, 31, 0, 0, 0, 40, 0, 0, 0, 49, 0, 0, 0, 58]
abbrev dktX0_newRow_1 : List UInt8 := dkwX0_newRow_1 ++ dktX0_newRow_2
def dkwX0_newRow_0 : List UInt8 := [26]
abbrev dktX0_newRow_0 : List UInt8 := dkwX0_newRow_0 ++ dktX0_newRow_1
theorem dksX0_newRow_0 : cX0_newRow.data.toList.drop 0 = dktX0_newRow_0 := by decide +kernel
theorem dksX0_newRow_1 : cX0_newRow.data.toList.drop 1 = dktX0_newRow_1 := dk_seg dksX0_newRow_0 1 rfl rfl
theorem dksX0_newRow_2 : cX0_newRow.data.toList.drop 32 = dktX0_newRow_2 := dk_seg dksX0_newRow_1 31 rfl rfl
theorem dksX0_newRow_3 : cX0_newRow.data.toList.drop 55 = dktX0_newRow_3 := dk_seg dksX0_newRow_2 23 rfl rfl
theorem dX0_newRow_0 : decode cX0_newRow 0 = .ok (.iload_n 0, 1) := dk_26 (dk_at dksX0_newRow_0 0 rfl rfl)
theorem dX0_newRow_1 : decode cX0_newRow 1 = .ok (.tableswitch 67 0 3 #[31, 40, 49, 58], 31) := by decide +kernel
theorem dX0_newRow_32 : decode cX0_newRow 32 = .ok (.new 374, 3) := dk_187 1 118 (dk_at dksX0_newRow_2 0 rfl rfl)
theorem dX0_newRow_35 : decode cX0_newRow 35 = .ok (.dup, 1) := dk_89 (dk_at dksX0_newRow_2 3 rfl rfl)
theorem dX0_newRow_36 : decode cX0_newRow 36 = .ok (.iload_n 1, 1) := dk_27 (dk_at dksX0_newRow_2 4 rfl rfl)
theorem dX0_newRow_37 : decode cX0_newRow 37 = .ok (.invokespecial 442, 3) := dk_183 1 186 (dk_at dksX0_newRow_2 5 rfl rfl)
theorem dX0_newRow_40 : decode cX0_newRow 40 = .ok (.areturn, 1) := dk_176 (dk_at dksX0_newRow_2 8 rfl rfl)
theorem dX0_newRow_41 : decode cX0_newRow 41 = .ok (.new 124, 3) := dk_187 0 124 (dk_at dksX0_newRow_2 9 rfl rfl)
theorem dX0_newRow_44 : decode cX0_newRow 44 = .ok (.dup, 1) := dk_89 (dk_at dksX0_newRow_2 12 rfl rfl)
theorem dX0_newRow_45 : decode cX0_newRow 45 = .ok (.iload_n 1, 1) := dk_27 (dk_at dksX0_newRow_2 13 rfl rfl)
theorem dX0_newRow_46 : decode cX0_newRow 46 = .ok (.invokespecial 444, 3) := dk_183 1 188 (dk_at dksX0_newRow_2 14 rfl rfl)
theorem dX0_newRow_49 : decode cX0_newRow 49 = .ok (.areturn, 1) := dk_176 (dk_at dksX0_newRow_2 17 rfl rfl)
theorem dX0_newRow_50 : decode cX0_newRow 50 = .ok (.new 445, 3) := dk_187 1 189 (dk_at dksX0_newRow_2 18 rfl rfl)
theorem dX0_newRow_53 : decode cX0_newRow 53 = .ok (.dup, 1) := dk_89 (dk_at dksX0_newRow_2 21 rfl rfl)
theorem dX0_newRow_54 : decode cX0_newRow 54 = .ok (.iload_n 1, 1) := dk_27 (dk_at dksX0_newRow_2 22 rfl rfl)
theorem dX0_newRow_55 : decode cX0_newRow 55 = .ok (.invokespecial 447, 3) := dk_183 1 191 (dk_at dksX0_newRow_3 0 rfl rfl)
theorem dX0_newRow_58 : decode cX0_newRow 58 = .ok (.areturn, 1) := dk_176 (dk_at dksX0_newRow_3 3 rfl rfl)
theorem dX0_newRow_59 : decode cX0_newRow 59 = .ok (.new 448, 3) := dk_187 1 192 (dk_at dksX0_newRow_3 4 rfl rfl)
theorem dX0_newRow_62 : decode cX0_newRow 62 = .ok (.dup, 1) := dk_89 (dk_at dksX0_newRow_3 7 rfl rfl)
theorem dX0_newRow_63 : decode cX0_newRow 63 = .ok (.iload_n 1, 1) := dk_27 (dk_at dksX0_newRow_3 8 rfl rfl)
theorem dX0_newRow_64 : decode cX0_newRow 64 = .ok (.invokespecial 450, 3) := dk_183 1 194 (dk_at dksX0_newRow_3 9 rfl rfl)
theorem dX0_newRow_67 : decode cX0_newRow 67 = .ok (.areturn, 1) := dk_176 (dk_at dksX0_newRow_3 12 rfl rfl)
theorem dX0_newRow_68 : decode cX0_newRow 68 = .ok (.new 451, 3) := dk_187 1 195 (dk_at dksX0_newRow_3 13 rfl rfl)
theorem dX0_newRow_71 : decode cX0_newRow 71 = .ok (.dup, 1) := dk_89 (dk_at dksX0_newRow_3 16 rfl rfl)
theorem dX0_newRow_72 : decode cX0_newRow 72 = .ok (.iload_n 1, 1) := dk_27 (dk_at dksX0_newRow_3 17 rfl rfl)
theorem dX0_newRow_73 : decode cX0_newRow 73 = .ok (.invokespecial 453, 3) := dk_183 1 197 (dk_at dksX0_newRow_3 18 rfl rfl)
theorem dX0_newRow_76 : decode cX0_newRow 76 = .ok (.areturn, 1) := dk_176 (dk_at dksX0_newRow_3 21 rfl rfl)
abbrev cX0_put : ByteArray := prog_1_method_54_code
def yX0_put : MethodName := ⟨RX0, "put", "(IIJ)I"⟩
def dkwX0_put_1 : List UInt8 := [153, 0, 7, 4, 167, 0, 4, 2, 172, 58, 5, 16, 245, 172, 58, 5, 16, 244, 172, 58, 5, 16, 243, 172]
abbrev dktX0_put_1 : List UInt8 := dkwX0_put_1 ++ []
def dkwX0_put_0 : List UInt8 := [27, 184, 0, 121, 154, 0, 5, 2, 172, 42, 180, 0, 84, 27, 50, 192, 1, 204, 28, 33, 182, 1, 206]
abbrev dktX0_put_0 : List UInt8 := dkwX0_put_0 ++ dktX0_put_1
theorem dksX0_put_0 : cX0_put.data.toList.drop 0 = dktX0_put_0 := by decide +kernel
theorem dksX0_put_1 : cX0_put.data.toList.drop 23 = dktX0_put_1 := dk_seg dksX0_put_0 23 rfl rfl
theorem dX0_put_0 : decode cX0_put 0 = .ok (.iload_n 1, 1) := dk_27 (dk_at dksX0_put_0 0 rfl rfl)
theorem dX0_put_1 : decode cX0_put 1 = .ok (.invokestatic 121, 3) := dk_184 0 121 (dk_at dksX0_put_0 1 rfl rfl)
theorem dX0_put_4 : decode cX0_put 4 = .ok (.ifCond .ne 5, 3) := dk_154 0 5 (dk_at dksX0_put_0 4 rfl rfl)
theorem dX0_put_7 : decode cX0_put 7 = .ok (.iconst (-1), 1) := dk_2 (dk_at dksX0_put_0 7 rfl rfl)
theorem dX0_put_8 : decode cX0_put 8 = .ok (.ireturn, 1) := dk_172 (dk_at dksX0_put_0 8 rfl rfl)
theorem dX0_put_9 : decode cX0_put 9 = .ok (.aload_n 0, 1) := dk_42 (dk_at dksX0_put_0 9 rfl rfl)
theorem dX0_put_10 : decode cX0_put 10 = .ok (.getfield 84, 3) := dk_180 0 84 (dk_at dksX0_put_0 10 rfl rfl)
theorem dX0_put_13 : decode cX0_put 13 = .ok (.iload_n 1, 1) := dk_27 (dk_at dksX0_put_0 13 rfl rfl)
theorem dX0_put_14 : decode cX0_put 14 = .ok (.aaload, 1) := dk_50 (dk_at dksX0_put_0 14 rfl rfl)
theorem dX0_put_15 : decode cX0_put 15 = .ok (.checkcast 460, 3) := dk_192 1 204 (dk_at dksX0_put_0 15 rfl rfl)
theorem dX0_put_18 : decode cX0_put 18 = .ok (.iload_n 2, 1) := dk_28 (dk_at dksX0_put_0 18 rfl rfl)
theorem dX0_put_19 : decode cX0_put 19 = .ok (.lload_n 3, 1) := dk_33 (dk_at dksX0_put_0 19 rfl rfl)
theorem dX0_put_20 : decode cX0_put 20 = .ok (.invokevirtual 462, 3) := dk_182 1 206 (dk_at dksX0_put_0 20 rfl rfl)
theorem dX0_put_23 : decode cX0_put 23 = .ok (.ifCond .eq 7, 3) := dk_153 0 7 (dk_at dksX0_put_1 0 rfl rfl)
theorem dX0_put_26 : decode cX0_put 26 = .ok (.iconst 1, 1) := dk_4 (dk_at dksX0_put_1 3 rfl rfl)
theorem dX0_put_27 : decode cX0_put 27 = .ok (.goto 4, 3) := dk_167 0 4 (dk_at dksX0_put_1 4 rfl rfl)
theorem dX0_put_30 : decode cX0_put 30 = .ok (.iconst (-1), 1) := dk_2 (dk_at dksX0_put_1 7 rfl rfl)
theorem dX0_put_31 : decode cX0_put 31 = .ok (.ireturn, 1) := dk_172 (dk_at dksX0_put_1 8 rfl rfl)
theorem dX0_put_32 : decode cX0_put 32 = .ok (.astore 5, 2) := dk_58 5 (dk_at dksX0_put_1 9 rfl rfl)
theorem dX0_put_34 : decode cX0_put 34 = .ok (.bipush (-11), 2) := dk_16 245 (dk_at dksX0_put_1 11 rfl rfl)
theorem dX0_put_36 : decode cX0_put 36 = .ok (.ireturn, 1) := dk_172 (dk_at dksX0_put_1 13 rfl rfl)
theorem dX0_put_37 : decode cX0_put 37 = .ok (.astore 5, 2) := dk_58 5 (dk_at dksX0_put_1 14 rfl rfl)
theorem dX0_put_39 : decode cX0_put 39 = .ok (.bipush (-12), 2) := dk_16 244 (dk_at dksX0_put_1 16 rfl rfl)
theorem dX0_put_41 : decode cX0_put 41 = .ok (.ireturn, 1) := dk_172 (dk_at dksX0_put_1 18 rfl rfl)
theorem dX0_put_42 : decode cX0_put 42 = .ok (.astore 5, 2) := dk_58 5 (dk_at dksX0_put_1 19 rfl rfl)
theorem dX0_put_44 : decode cX0_put 44 = .ok (.bipush (-13), 2) := dk_16 243 (dk_at dksX0_put_1 21 rfl rfl)
theorem dX0_put_46 : decode cX0_put 46 = .ok (.ireturn, 1) := dk_172 (dk_at dksX0_put_1 23 rfl rfl)
abbrev cX0_element : ByteArray := prog_1_method_55_code
def yX0_element : MethodName := ⟨RX0, "element", "(II)J"⟩
def dkwX0_element_1 : List UInt8 := [173, 78, 20, 1, 212, 173, 78, 20, 1, 212, 173, 78, 20, 1, 212, 173]
abbrev dktX0_element_1 : List UInt8 := dkwX0_element_1 ++ []
def dkwX0_element_0 : List UInt8 := [27, 184, 0, 121, 154, 0, 7, 20, 1, 212, 173, 42, 180, 0, 84, 27, 50, 192, 1, 204, 28, 182, 1, 214]
abbrev dktX0_element_0 : List UInt8 := dkwX0_element_0 ++ dktX0_element_1
theorem dksX0_element_0 : cX0_element.data.toList.drop 0 = dktX0_element_0 := by decide +kernel
theorem dksX0_element_1 : cX0_element.data.toList.drop 24 = dktX0_element_1 := dk_seg dksX0_element_0 24 rfl rfl
theorem dX0_element_0 : decode cX0_element 0 = .ok (.iload_n 1, 1) := dk_27 (dk_at dksX0_element_0 0 rfl rfl)
theorem dX0_element_1 : decode cX0_element 1 = .ok (.invokestatic 121, 3) := dk_184 0 121 (dk_at dksX0_element_0 1 rfl rfl)
theorem dX0_element_4 : decode cX0_element 4 = .ok (.ifCond .ne 7, 3) := dk_154 0 7 (dk_at dksX0_element_0 4 rfl rfl)
theorem dX0_element_7 : decode cX0_element 7 = .ok (.ldc2_w 468, 3) := dk_20 1 212 (dk_at dksX0_element_0 7 rfl rfl)
theorem dX0_element_10 : decode cX0_element 10 = .ok (.lreturn, 1) := dk_173 (dk_at dksX0_element_0 10 rfl rfl)
theorem dX0_element_11 : decode cX0_element 11 = .ok (.aload_n 0, 1) := dk_42 (dk_at dksX0_element_0 11 rfl rfl)
theorem dX0_element_12 : decode cX0_element 12 = .ok (.getfield 84, 3) := dk_180 0 84 (dk_at dksX0_element_0 12 rfl rfl)
theorem dX0_element_15 : decode cX0_element 15 = .ok (.iload_n 1, 1) := dk_27 (dk_at dksX0_element_0 15 rfl rfl)
theorem dX0_element_16 : decode cX0_element 16 = .ok (.aaload, 1) := dk_50 (dk_at dksX0_element_0 16 rfl rfl)
theorem dX0_element_17 : decode cX0_element 17 = .ok (.checkcast 460, 3) := dk_192 1 204 (dk_at dksX0_element_0 17 rfl rfl)
theorem dX0_element_20 : decode cX0_element 20 = .ok (.iload_n 2, 1) := dk_28 (dk_at dksX0_element_0 20 rfl rfl)
theorem dX0_element_21 : decode cX0_element 21 = .ok (.invokevirtual 470, 3) := dk_182 1 214 (dk_at dksX0_element_0 21 rfl rfl)
theorem dX0_element_24 : decode cX0_element 24 = .ok (.lreturn, 1) := dk_173 (dk_at dksX0_element_1 0 rfl rfl)
theorem dX0_element_25 : decode cX0_element 25 = .ok (.astore_n 3, 1) := dk_78 (dk_at dksX0_element_1 1 rfl rfl)
theorem dX0_element_26 : decode cX0_element 26 = .ok (.ldc2_w 468, 3) := dk_20 1 212 (dk_at dksX0_element_1 2 rfl rfl)
theorem dX0_element_29 : decode cX0_element 29 = .ok (.lreturn, 1) := dk_173 (dk_at dksX0_element_1 5 rfl rfl)
theorem dX0_element_30 : decode cX0_element 30 = .ok (.astore_n 3, 1) := dk_78 (dk_at dksX0_element_1 6 rfl rfl)
theorem dX0_element_31 : decode cX0_element 31 = .ok (.ldc2_w 468, 3) := dk_20 1 212 (dk_at dksX0_element_1 7 rfl rfl)
theorem dX0_element_34 : decode cX0_element 34 = .ok (.lreturn, 1) := dk_173 (dk_at dksX0_element_1 10 rfl rfl)
theorem dX0_element_35 : decode cX0_element 35 = .ok (.astore_n 3, 1) := dk_78 (dk_at dksX0_element_1 11 rfl rfl)
theorem dX0_element_36 : decode cX0_element 36 = .ok (.ldc2_w 468, 3) := dk_20 1 212 (dk_at dksX0_element_1 12 rfl rfl)
theorem dX0_element_39 : decode cX0_element 39 = .ok (.lreturn, 1) := dk_173 (dk_at dksX0_element_1 15 rfl rfl)
abbrev cX0_shift : ByteArray := prog_1_method_56_code
def yX0_shift : MethodName := ⟨RX0, "shift", "(IIIII)I"⟩
def dkwX0_shift_3 : List UInt8 := [172, 58, 6, 16, 243, 172, 21, 5, 172]
abbrev dktX0_shift_3 : List UInt8 := dkwX0_shift_3 ++ []
def dkwX0_shift_2 : List UInt8 := [28, 42, 180, 0, 84, 29, 50, 192, 1, 204, 21, 4, 21, 5, 182, 1, 215, 167, 0, 13, 58, 6, 16, 244]
abbrev dktX0_shift_2 : List UInt8 := dkwX0_shift_2 ++ dktX0_shift_3
def dkwX0_shift_1 : List UInt8 := [198, 0, 12, 42, 180, 0, 84, 29, 50, 199, 0, 6, 16, 245, 172, 42, 180, 0, 84, 27, 50, 192, 1, 204]
abbrev dktX0_shift_1 : List UInt8 := dkwX0_shift_1 ++ dktX0_shift_2
def dkwX0_shift_0 : List UInt8 := [27, 184, 0, 121, 153, 0, 10, 29, 184, 0, 121, 154, 0, 5, 2, 172, 42, 180, 0, 84, 27, 50]
abbrev dktX0_shift_0 : List UInt8 := dkwX0_shift_0 ++ dktX0_shift_1
theorem dksX0_shift_0 : cX0_shift.data.toList.drop 0 = dktX0_shift_0 := by decide +kernel
theorem dksX0_shift_1 : cX0_shift.data.toList.drop 22 = dktX0_shift_1 := dk_seg dksX0_shift_0 22 rfl rfl
theorem dksX0_shift_2 : cX0_shift.data.toList.drop 46 = dktX0_shift_2 := dk_seg dksX0_shift_1 24 rfl rfl
theorem dksX0_shift_3 : cX0_shift.data.toList.drop 70 = dktX0_shift_3 := dk_seg dksX0_shift_2 24 rfl rfl
theorem dX0_shift_0 : decode cX0_shift 0 = .ok (.iload_n 1, 1) := dk_27 (dk_at dksX0_shift_0 0 rfl rfl)
theorem dX0_shift_1 : decode cX0_shift 1 = .ok (.invokestatic 121, 3) := dk_184 0 121 (dk_at dksX0_shift_0 1 rfl rfl)
theorem dX0_shift_4 : decode cX0_shift 4 = .ok (.ifCond .eq 10, 3) := dk_153 0 10 (dk_at dksX0_shift_0 4 rfl rfl)
theorem dX0_shift_7 : decode cX0_shift 7 = .ok (.iload_n 3, 1) := dk_29 (dk_at dksX0_shift_0 7 rfl rfl)
theorem dX0_shift_8 : decode cX0_shift 8 = .ok (.invokestatic 121, 3) := dk_184 0 121 (dk_at dksX0_shift_0 8 rfl rfl)
theorem dX0_shift_11 : decode cX0_shift 11 = .ok (.ifCond .ne 5, 3) := dk_154 0 5 (dk_at dksX0_shift_0 11 rfl rfl)
theorem dX0_shift_14 : decode cX0_shift 14 = .ok (.iconst (-1), 1) := dk_2 (dk_at dksX0_shift_0 14 rfl rfl)
theorem dX0_shift_15 : decode cX0_shift 15 = .ok (.ireturn, 1) := dk_172 (dk_at dksX0_shift_0 15 rfl rfl)
theorem dX0_shift_16 : decode cX0_shift 16 = .ok (.aload_n 0, 1) := dk_42 (dk_at dksX0_shift_0 16 rfl rfl)
theorem dX0_shift_17 : decode cX0_shift 17 = .ok (.getfield 84, 3) := dk_180 0 84 (dk_at dksX0_shift_0 17 rfl rfl)
theorem dX0_shift_20 : decode cX0_shift 20 = .ok (.iload_n 1, 1) := dk_27 (dk_at dksX0_shift_0 20 rfl rfl)
theorem dX0_shift_21 : decode cX0_shift 21 = .ok (.aaload, 1) := dk_50 (dk_at dksX0_shift_0 21 rfl rfl)
theorem dX0_shift_22 : decode cX0_shift 22 = .ok (.ifnull 12, 3) := dk_198 0 12 (dk_at dksX0_shift_1 0 rfl rfl)
theorem dX0_shift_25 : decode cX0_shift 25 = .ok (.aload_n 0, 1) := dk_42 (dk_at dksX0_shift_1 3 rfl rfl)
theorem dX0_shift_26 : decode cX0_shift 26 = .ok (.getfield 84, 3) := dk_180 0 84 (dk_at dksX0_shift_1 4 rfl rfl)
theorem dX0_shift_29 : decode cX0_shift 29 = .ok (.iload_n 3, 1) := dk_29 (dk_at dksX0_shift_1 7 rfl rfl)
theorem dX0_shift_30 : decode cX0_shift 30 = .ok (.aaload, 1) := dk_50 (dk_at dksX0_shift_1 8 rfl rfl)
theorem dX0_shift_31 : decode cX0_shift 31 = .ok (.ifnonnull 6, 3) := dk_199 0 6 (dk_at dksX0_shift_1 9 rfl rfl)
theorem dX0_shift_34 : decode cX0_shift 34 = .ok (.bipush (-11), 2) := dk_16 245 (dk_at dksX0_shift_1 12 rfl rfl)
theorem dX0_shift_36 : decode cX0_shift 36 = .ok (.ireturn, 1) := dk_172 (dk_at dksX0_shift_1 14 rfl rfl)
theorem dX0_shift_37 : decode cX0_shift 37 = .ok (.aload_n 0, 1) := dk_42 (dk_at dksX0_shift_1 15 rfl rfl)
theorem dX0_shift_38 : decode cX0_shift 38 = .ok (.getfield 84, 3) := dk_180 0 84 (dk_at dksX0_shift_1 16 rfl rfl)
theorem dX0_shift_41 : decode cX0_shift 41 = .ok (.iload_n 1, 1) := dk_27 (dk_at dksX0_shift_1 19 rfl rfl)
theorem dX0_shift_42 : decode cX0_shift 42 = .ok (.aaload, 1) := dk_50 (dk_at dksX0_shift_1 20 rfl rfl)
theorem dX0_shift_43 : decode cX0_shift 43 = .ok (.checkcast 460, 3) := dk_192 1 204 (dk_at dksX0_shift_1 21 rfl rfl)
theorem dX0_shift_46 : decode cX0_shift 46 = .ok (.iload_n 2, 1) := dk_28 (dk_at dksX0_shift_2 0 rfl rfl)
theorem dX0_shift_47 : decode cX0_shift 47 = .ok (.aload_n 0, 1) := dk_42 (dk_at dksX0_shift_2 1 rfl rfl)
theorem dX0_shift_48 : decode cX0_shift 48 = .ok (.getfield 84, 3) := dk_180 0 84 (dk_at dksX0_shift_2 2 rfl rfl)
theorem dX0_shift_51 : decode cX0_shift 51 = .ok (.iload_n 3, 1) := dk_29 (dk_at dksX0_shift_2 5 rfl rfl)
theorem dX0_shift_52 : decode cX0_shift 52 = .ok (.aaload, 1) := dk_50 (dk_at dksX0_shift_2 6 rfl rfl)
theorem dX0_shift_53 : decode cX0_shift 53 = .ok (.checkcast 460, 3) := dk_192 1 204 (dk_at dksX0_shift_2 7 rfl rfl)
theorem dX0_shift_56 : decode cX0_shift 56 = .ok (.iload 4, 2) := dk_21 4 (dk_at dksX0_shift_2 10 rfl rfl)
theorem dX0_shift_58 : decode cX0_shift 58 = .ok (.iload 5, 2) := dk_21 5 (dk_at dksX0_shift_2 12 rfl rfl)
theorem dX0_shift_60 : decode cX0_shift 60 = .ok (.invokevirtual 471, 3) := dk_182 1 215 (dk_at dksX0_shift_2 14 rfl rfl)
theorem dX0_shift_63 : decode cX0_shift 63 = .ok (.goto 13, 3) := dk_167 0 13 (dk_at dksX0_shift_2 17 rfl rfl)
theorem dX0_shift_66 : decode cX0_shift 66 = .ok (.astore 6, 2) := dk_58 6 (dk_at dksX0_shift_2 20 rfl rfl)
theorem dX0_shift_68 : decode cX0_shift 68 = .ok (.bipush (-12), 2) := dk_16 244 (dk_at dksX0_shift_2 22 rfl rfl)
theorem dX0_shift_70 : decode cX0_shift 70 = .ok (.ireturn, 1) := dk_172 (dk_at dksX0_shift_3 0 rfl rfl)
theorem dX0_shift_71 : decode cX0_shift 71 = .ok (.astore 6, 2) := dk_58 6 (dk_at dksX0_shift_3 1 rfl rfl)
theorem dX0_shift_73 : decode cX0_shift 73 = .ok (.bipush (-13), 2) := dk_16 243 (dk_at dksX0_shift_3 3 rfl rfl)
theorem dX0_shift_75 : decode cX0_shift 75 = .ok (.ireturn, 1) := dk_172 (dk_at dksX0_shift_3 5 rfl rfl)
theorem dX0_shift_76 : decode cX0_shift 76 = .ok (.iload 5, 2) := dk_21 5 (dk_at dksX0_shift_3 6 rfl rfl)
theorem dX0_shift_78 : decode cX0_shift 78 = .ok (.ireturn, 1) := dk_172 (dk_at dksX0_shift_3 8 rfl rfl)
abbrev cX0_taken : ByteArray := prog_1_method_57_code
def yX0_taken : MethodName := ⟨RX0, "taken", "(II)I"⟩
def dkwX0_taken_2 : List UInt8 := [16, 245, 172, 78, 16, 244, 172]
abbrev dktX0_taken_2 : List UInt8 := dkwX0_taken_2 ++ []
def dkwX0_taken_1 : List UInt8 := [50, 192, 0, 76, 78, 45, 28, 182, 1, 219, 153, 0, 10, 45, 182, 1, 222, 167, 0, 5, 16, 244, 172, 78]
abbrev dktX0_taken_1 : List UInt8 := dkwX0_taken_1 ++ dktX0_taken_2
def dkwX0_taken_0 : List UInt8 := [27, 184, 0, 121, 153, 0, 13, 28, 3, 16, 7, 184, 0, 91, 154, 0, 5, 2, 172, 42, 180, 0, 84, 27]
abbrev dktX0_taken_0 : List UInt8 := dkwX0_taken_0 ++ dktX0_taken_1
theorem dksX0_taken_0 : cX0_taken.data.toList.drop 0 = dktX0_taken_0 := by decide +kernel
theorem dksX0_taken_1 : cX0_taken.data.toList.drop 24 = dktX0_taken_1 := dk_seg dksX0_taken_0 24 rfl rfl
theorem dksX0_taken_2 : cX0_taken.data.toList.drop 48 = dktX0_taken_2 := dk_seg dksX0_taken_1 24 rfl rfl
theorem dX0_taken_0 : decode cX0_taken 0 = .ok (.iload_n 1, 1) := dk_27 (dk_at dksX0_taken_0 0 rfl rfl)
theorem dX0_taken_1 : decode cX0_taken 1 = .ok (.invokestatic 121, 3) := dk_184 0 121 (dk_at dksX0_taken_0 1 rfl rfl)
theorem dX0_taken_4 : decode cX0_taken 4 = .ok (.ifCond .eq 13, 3) := dk_153 0 13 (dk_at dksX0_taken_0 4 rfl rfl)
theorem dX0_taken_7 : decode cX0_taken 7 = .ok (.iload_n 2, 1) := dk_28 (dk_at dksX0_taken_0 7 rfl rfl)
theorem dX0_taken_8 : decode cX0_taken 8 = .ok (.iconst 0, 1) := dk_3 (dk_at dksX0_taken_0 8 rfl rfl)
theorem dX0_taken_9 : decode cX0_taken 9 = .ok (.bipush 7, 2) := dk_16 7 (dk_at dksX0_taken_0 9 rfl rfl)
theorem dX0_taken_11 : decode cX0_taken 11 = .ok (.invokestatic 91, 3) := dk_184 0 91 (dk_at dksX0_taken_0 11 rfl rfl)
theorem dX0_taken_14 : decode cX0_taken 14 = .ok (.ifCond .ne 5, 3) := dk_154 0 5 (dk_at dksX0_taken_0 14 rfl rfl)
theorem dX0_taken_17 : decode cX0_taken 17 = .ok (.iconst (-1), 1) := dk_2 (dk_at dksX0_taken_0 17 rfl rfl)
theorem dX0_taken_18 : decode cX0_taken 18 = .ok (.ireturn, 1) := dk_172 (dk_at dksX0_taken_0 18 rfl rfl)
theorem dX0_taken_19 : decode cX0_taken 19 = .ok (.aload_n 0, 1) := dk_42 (dk_at dksX0_taken_0 19 rfl rfl)
theorem dX0_taken_20 : decode cX0_taken 20 = .ok (.getfield 84, 3) := dk_180 0 84 (dk_at dksX0_taken_0 20 rfl rfl)
theorem dX0_taken_23 : decode cX0_taken 23 = .ok (.iload_n 1, 1) := dk_27 (dk_at dksX0_taken_0 23 rfl rfl)
theorem dX0_taken_24 : decode cX0_taken 24 = .ok (.aaload, 1) := dk_50 (dk_at dksX0_taken_1 0 rfl rfl)
theorem dX0_taken_25 : decode cX0_taken 25 = .ok (.checkcast 76, 3) := dk_192 0 76 (dk_at dksX0_taken_1 1 rfl rfl)
theorem dX0_taken_28 : decode cX0_taken 28 = .ok (.astore_n 3, 1) := dk_78 (dk_at dksX0_taken_1 4 rfl rfl)
theorem dX0_taken_29 : decode cX0_taken 29 = .ok (.aload_n 3, 1) := dk_45 (dk_at dksX0_taken_1 5 rfl rfl)
theorem dX0_taken_30 : decode cX0_taken 30 = .ok (.iload_n 2, 1) := dk_28 (dk_at dksX0_taken_1 6 rfl rfl)
theorem dX0_taken_31 : decode cX0_taken 31 = .ok (.invokevirtual 475, 3) := dk_182 1 219 (dk_at dksX0_taken_1 7 rfl rfl)
theorem dX0_taken_34 : decode cX0_taken 34 = .ok (.ifCond .eq 10, 3) := dk_153 0 10 (dk_at dksX0_taken_1 10 rfl rfl)
theorem dX0_taken_37 : decode cX0_taken 37 = .ok (.aload_n 3, 1) := dk_45 (dk_at dksX0_taken_1 13 rfl rfl)
theorem dX0_taken_38 : decode cX0_taken 38 = .ok (.invokevirtual 478, 3) := dk_182 1 222 (dk_at dksX0_taken_1 14 rfl rfl)
theorem dX0_taken_41 : decode cX0_taken 41 = .ok (.goto 5, 3) := dk_167 0 5 (dk_at dksX0_taken_1 17 rfl rfl)
theorem dX0_taken_44 : decode cX0_taken 44 = .ok (.bipush (-12), 2) := dk_16 244 (dk_at dksX0_taken_1 20 rfl rfl)
theorem dX0_taken_46 : decode cX0_taken 46 = .ok (.ireturn, 1) := dk_172 (dk_at dksX0_taken_1 22 rfl rfl)
theorem dX0_taken_47 : decode cX0_taken 47 = .ok (.astore_n 3, 1) := dk_78 (dk_at dksX0_taken_1 23 rfl rfl)
theorem dX0_taken_48 : decode cX0_taken 48 = .ok (.bipush (-11), 2) := dk_16 245 (dk_at dksX0_taken_2 0 rfl rfl)
theorem dX0_taken_50 : decode cX0_taken 50 = .ok (.ireturn, 1) := dk_172 (dk_at dksX0_taken_2 2 rfl rfl)
theorem dX0_taken_51 : decode cX0_taken 51 = .ok (.astore_n 3, 1) := dk_78 (dk_at dksX0_taken_2 3 rfl rfl)
theorem dX0_taken_52 : decode cX0_taken 52 = .ok (.bipush (-12), 2) := dk_16 244 (dk_at dksX0_taken_2 4 rfl rfl)
theorem dX0_taken_54 : decode cX0_taken 54 = .ok (.ireturn, 1) := dk_172 (dk_at dksX0_taken_2 6 rfl rfl)
abbrev cX0_count : ByteArray := prog_1_method_58_code
def yX0_count : MethodName := ⟨RX0, "count", "(I)I"⟩
def dkwX0_count_3 : List UInt8 := [172, 42, 180, 1, 137, 172, 42, 180, 1, 134, 172, 2, 172]
abbrev dktX0_count_3 : List UInt8 := dkwX0_count_3 ++ []
def dkwX0_count_2 : List UInt8 := [42, 180, 0, 88, 172, 42, 180, 0, 95, 172, 42, 180, 0, 108, 172, 42, 180, 0, 198, 172, 42, 180, 0, 176]
abbrev dktX0_count_2 : List UInt8 := dkwX0_count_2 ++ dktX0_count_3
def dkwX0_count_1 : List UInt8 := [170, 0, 0, 0, 0, 0, 78, 0, 0, 0, 0, 0, 0, 0, 6, 0, 0, 0, 43, 0, 0, 0, 48, 0, 0, 0, 53, 0, 0, 0, 58, 0, 0, 0, 63, 0, 0, 0, 68, 0, 0, 0, 73]
abbrev dktX0_count_1 : List UInt8 := dkwX0_count_1 ++ dktX0_count_2
def dkwX0_count_0 : List UInt8 := [27]
abbrev dktX0_count_0 : List UInt8 := dkwX0_count_0 ++ dktX0_count_1
theorem dksX0_count_0 : cX0_count.data.toList.drop 0 = dktX0_count_0 := by decide +kernel
theorem dksX0_count_1 : cX0_count.data.toList.drop 1 = dktX0_count_1 := dk_seg dksX0_count_0 1 rfl rfl
theorem dksX0_count_2 : cX0_count.data.toList.drop 44 = dktX0_count_2 := dk_seg dksX0_count_1 43 rfl rfl
theorem dksX0_count_3 : cX0_count.data.toList.drop 68 = dktX0_count_3 := dk_seg dksX0_count_2 24 rfl rfl
theorem dX0_count_0 : decode cX0_count 0 = .ok (.iload_n 1, 1) := dk_27 (dk_at dksX0_count_0 0 rfl rfl)
theorem dX0_count_1 : decode cX0_count 1 = .ok (.tableswitch 78 0 6 #[43, 48, 53, 58, 63, 68, 73], 43) := by decide +kernel
theorem dX0_count_44 : decode cX0_count 44 = .ok (.aload_n 0, 1) := dk_42 (dk_at dksX0_count_2 0 rfl rfl)
theorem dX0_count_45 : decode cX0_count 45 = .ok (.getfield 88, 3) := dk_180 0 88 (dk_at dksX0_count_2 1 rfl rfl)
theorem dX0_count_48 : decode cX0_count 48 = .ok (.ireturn, 1) := dk_172 (dk_at dksX0_count_2 4 rfl rfl)
theorem dX0_count_49 : decode cX0_count 49 = .ok (.aload_n 0, 1) := dk_42 (dk_at dksX0_count_2 5 rfl rfl)
theorem dX0_count_50 : decode cX0_count 50 = .ok (.getfield 95, 3) := dk_180 0 95 (dk_at dksX0_count_2 6 rfl rfl)
theorem dX0_count_53 : decode cX0_count 53 = .ok (.ireturn, 1) := dk_172 (dk_at dksX0_count_2 9 rfl rfl)
theorem dX0_count_54 : decode cX0_count 54 = .ok (.aload_n 0, 1) := dk_42 (dk_at dksX0_count_2 10 rfl rfl)
theorem dX0_count_55 : decode cX0_count 55 = .ok (.getfield 108, 3) := dk_180 0 108 (dk_at dksX0_count_2 11 rfl rfl)
theorem dX0_count_58 : decode cX0_count 58 = .ok (.ireturn, 1) := dk_172 (dk_at dksX0_count_2 14 rfl rfl)
theorem dX0_count_59 : decode cX0_count 59 = .ok (.aload_n 0, 1) := dk_42 (dk_at dksX0_count_2 15 rfl rfl)
theorem dX0_count_60 : decode cX0_count 60 = .ok (.getfield 198, 3) := dk_180 0 198 (dk_at dksX0_count_2 16 rfl rfl)
theorem dX0_count_63 : decode cX0_count 63 = .ok (.ireturn, 1) := dk_172 (dk_at dksX0_count_2 19 rfl rfl)
theorem dX0_count_64 : decode cX0_count 64 = .ok (.aload_n 0, 1) := dk_42 (dk_at dksX0_count_2 20 rfl rfl)
theorem dX0_count_65 : decode cX0_count 65 = .ok (.getfield 176, 3) := dk_180 0 176 (dk_at dksX0_count_2 21 rfl rfl)
theorem dX0_count_68 : decode cX0_count 68 = .ok (.ireturn, 1) := dk_172 (dk_at dksX0_count_3 0 rfl rfl)
theorem dX0_count_69 : decode cX0_count 69 = .ok (.aload_n 0, 1) := dk_42 (dk_at dksX0_count_3 1 rfl rfl)
theorem dX0_count_70 : decode cX0_count 70 = .ok (.getfield 393, 3) := dk_180 1 137 (dk_at dksX0_count_3 2 rfl rfl)
theorem dX0_count_73 : decode cX0_count 73 = .ok (.ireturn, 1) := dk_172 (dk_at dksX0_count_3 5 rfl rfl)
theorem dX0_count_74 : decode cX0_count 74 = .ok (.aload_n 0, 1) := dk_42 (dk_at dksX0_count_3 6 rfl rfl)
theorem dX0_count_75 : decode cX0_count 75 = .ok (.getfield 390, 3) := dk_180 1 134 (dk_at dksX0_count_3 7 rfl rfl)
theorem dX0_count_78 : decode cX0_count 78 = .ok (.ireturn, 1) := dk_172 (dk_at dksX0_count_3 10 rfl rfl)
theorem dX0_count_79 : decode cX0_count 79 = .ok (.iconst (-1), 1) := dk_2 (dk_at dksX0_count_3 11 rfl rfl)
theorem dX0_count_80 : decode cX0_count 80 = .ok (.ireturn, 1) := dk_172 (dk_at dksX0_count_3 12 rfl rfl)
