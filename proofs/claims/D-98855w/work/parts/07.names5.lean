set_option maxRecDepth 100000
abbrev cX7_couplesOf : ByteArray := prog_20_method_87_code
def yX7_couplesOf : MethodName := ⟨RX7, "couplesOf", "(I)I"⟩
def dkwX7_couplesOf_4 : List UInt8 := [21, 5, 120, 2, 130, 126, 182, 1, 176, 96, 184, 1, 42, 54, 4, 132, 5, 1, 167, 255, 202, 21, 4, 172]
abbrev dktX7_couplesOf_4 : List UInt8 := dkwX7_couplesOf_4 ++ []
def dkwX7_couplesOf_3 : List UInt8 := [21, 5, 184, 1, 139, 153, 0, 34, 42, 28, 21, 5, 182, 1, 173, 153, 0, 24, 21, 4, 4, 42, 29, 4]
abbrev dktX7_couplesOf_3 : List UInt8 := dkwX7_couplesOf_3 ++ dktX7_couplesOf_4
def dkwX7_couplesOf_2 : List UInt8 := [29, 182, 1, 176, 54, 4, 28, 4, 96, 54, 5, 21, 5, 42, 180, 0, 42, 3, 46, 162, 0, 49, 29]
abbrev dktX7_couplesOf_2 : List UInt8 := dkwX7_couplesOf_2 ++ dktX7_couplesOf_3
def dkwX7_couplesOf_1 : List UInt8 := [167, 255, 235, 28, 42, 180, 0, 42, 3, 46, 160, 0, 5, 3, 172, 27, 4, 28, 120, 2, 130, 126, 62, 42]
abbrev dktX7_couplesOf_1 : List UInt8 := dkwX7_couplesOf_1 ++ dktX7_couplesOf_2
def dkwX7_couplesOf_0 : List UInt8 := [3, 61, 28, 42, 180, 0, 42, 3, 46, 162, 0, 17, 27, 28, 184, 1, 139, 154, 0, 9, 132, 2, 1]
abbrev dktX7_couplesOf_0 : List UInt8 := dkwX7_couplesOf_0 ++ dktX7_couplesOf_1
theorem dksX7_couplesOf_0 : cX7_couplesOf.data.toList.drop 0 = dktX7_couplesOf_0 := by decide +kernel
theorem dksX7_couplesOf_1 : cX7_couplesOf.data.toList.drop 23 = dktX7_couplesOf_1 := dk_seg dksX7_couplesOf_0 23 rfl rfl
theorem dksX7_couplesOf_2 : cX7_couplesOf.data.toList.drop 47 = dktX7_couplesOf_2 := dk_seg dksX7_couplesOf_1 24 rfl rfl
theorem dksX7_couplesOf_3 : cX7_couplesOf.data.toList.drop 70 = dktX7_couplesOf_3 := dk_seg dksX7_couplesOf_2 23 rfl rfl
theorem dksX7_couplesOf_4 : cX7_couplesOf.data.toList.drop 94 = dktX7_couplesOf_4 := dk_seg dksX7_couplesOf_3 24 rfl rfl
theorem dX7_couplesOf_0 : decode cX7_couplesOf 0 = .ok (.iconst 0, 1) := dk_3 (dk_at dksX7_couplesOf_0 0 rfl rfl)
theorem dX7_couplesOf_1 : decode cX7_couplesOf 1 = .ok (.istore_n 2, 1) := dk_61 (dk_at dksX7_couplesOf_0 1 rfl rfl)
theorem dX7_couplesOf_2 : decode cX7_couplesOf 2 = .ok (.iload_n 2, 1) := dk_28 (dk_at dksX7_couplesOf_0 2 rfl rfl)
theorem dX7_couplesOf_3 : decode cX7_couplesOf 3 = .ok (.aload_n 0, 1) := dk_42 (dk_at dksX7_couplesOf_0 3 rfl rfl)
theorem dX7_couplesOf_4 : decode cX7_couplesOf 4 = .ok (.getfield 42, 3) := dk_180 0 42 (dk_at dksX7_couplesOf_0 4 rfl rfl)
theorem dX7_couplesOf_7 : decode cX7_couplesOf 7 = .ok (.iconst 0, 1) := dk_3 (dk_at dksX7_couplesOf_0 7 rfl rfl)
theorem dX7_couplesOf_8 : decode cX7_couplesOf 8 = .ok (.iaload, 1) := dk_46 (dk_at dksX7_couplesOf_0 8 rfl rfl)
theorem dX7_couplesOf_9 : decode cX7_couplesOf 9 = .ok (.if_icmp .ge 17, 3) := dk_162 0 17 (dk_at dksX7_couplesOf_0 9 rfl rfl)
theorem dX7_couplesOf_12 : decode cX7_couplesOf 12 = .ok (.iload_n 1, 1) := dk_27 (dk_at dksX7_couplesOf_0 12 rfl rfl)
theorem dX7_couplesOf_13 : decode cX7_couplesOf 13 = .ok (.iload_n 2, 1) := dk_28 (dk_at dksX7_couplesOf_0 13 rfl rfl)
theorem dX7_couplesOf_14 : decode cX7_couplesOf 14 = .ok (.invokestatic 395, 3) := dk_184 1 139 (dk_at dksX7_couplesOf_0 14 rfl rfl)
theorem dX7_couplesOf_17 : decode cX7_couplesOf 17 = .ok (.ifCond .ne 9, 3) := dk_154 0 9 (dk_at dksX7_couplesOf_0 17 rfl rfl)
theorem dX7_couplesOf_20 : decode cX7_couplesOf 20 = .ok (.iinc 2 1, 3) := dk_132 2 1 (dk_at dksX7_couplesOf_0 20 rfl rfl)
theorem dX7_couplesOf_23 : decode cX7_couplesOf 23 = .ok (.goto (-21), 3) := dk_167 255 235 (dk_at dksX7_couplesOf_1 0 rfl rfl)
theorem dX7_couplesOf_26 : decode cX7_couplesOf 26 = .ok (.iload_n 2, 1) := dk_28 (dk_at dksX7_couplesOf_1 3 rfl rfl)
theorem dX7_couplesOf_27 : decode cX7_couplesOf 27 = .ok (.aload_n 0, 1) := dk_42 (dk_at dksX7_couplesOf_1 4 rfl rfl)
theorem dX7_couplesOf_28 : decode cX7_couplesOf 28 = .ok (.getfield 42, 3) := dk_180 0 42 (dk_at dksX7_couplesOf_1 5 rfl rfl)
theorem dX7_couplesOf_31 : decode cX7_couplesOf 31 = .ok (.iconst 0, 1) := dk_3 (dk_at dksX7_couplesOf_1 8 rfl rfl)
theorem dX7_couplesOf_32 : decode cX7_couplesOf 32 = .ok (.iaload, 1) := dk_46 (dk_at dksX7_couplesOf_1 9 rfl rfl)
theorem dX7_couplesOf_33 : decode cX7_couplesOf 33 = .ok (.if_icmp .ne 5, 3) := dk_160 0 5 (dk_at dksX7_couplesOf_1 10 rfl rfl)
theorem dX7_couplesOf_36 : decode cX7_couplesOf 36 = .ok (.iconst 0, 1) := dk_3 (dk_at dksX7_couplesOf_1 13 rfl rfl)
theorem dX7_couplesOf_37 : decode cX7_couplesOf 37 = .ok (.ireturn, 1) := dk_172 (dk_at dksX7_couplesOf_1 14 rfl rfl)
theorem dX7_couplesOf_38 : decode cX7_couplesOf 38 = .ok (.iload_n 1, 1) := dk_27 (dk_at dksX7_couplesOf_1 15 rfl rfl)
theorem dX7_couplesOf_39 : decode cX7_couplesOf 39 = .ok (.iconst 1, 1) := dk_4 (dk_at dksX7_couplesOf_1 16 rfl rfl)
theorem dX7_couplesOf_40 : decode cX7_couplesOf 40 = .ok (.iload_n 2, 1) := dk_28 (dk_at dksX7_couplesOf_1 17 rfl rfl)
theorem dX7_couplesOf_41 : decode cX7_couplesOf 41 = .ok (.ishl, 1) := dk_120 (dk_at dksX7_couplesOf_1 18 rfl rfl)
theorem dX7_couplesOf_42 : decode cX7_couplesOf 42 = .ok (.iconst (-1), 1) := dk_2 (dk_at dksX7_couplesOf_1 19 rfl rfl)
theorem dX7_couplesOf_43 : decode cX7_couplesOf 43 = .ok (.ixor, 1) := dk_130 (dk_at dksX7_couplesOf_1 20 rfl rfl)
theorem dX7_couplesOf_44 : decode cX7_couplesOf 44 = .ok (.iand, 1) := dk_126 (dk_at dksX7_couplesOf_1 21 rfl rfl)
theorem dX7_couplesOf_45 : decode cX7_couplesOf 45 = .ok (.istore_n 3, 1) := dk_62 (dk_at dksX7_couplesOf_1 22 rfl rfl)
theorem dX7_couplesOf_46 : decode cX7_couplesOf 46 = .ok (.aload_n 0, 1) := dk_42 (dk_at dksX7_couplesOf_1 23 rfl rfl)
theorem dX7_couplesOf_47 : decode cX7_couplesOf 47 = .ok (.iload_n 3, 1) := dk_29 (dk_at dksX7_couplesOf_2 0 rfl rfl)
theorem dX7_couplesOf_48 : decode cX7_couplesOf 48 = .ok (.invokevirtual 432, 3) := dk_182 1 176 (dk_at dksX7_couplesOf_2 1 rfl rfl)
theorem dX7_couplesOf_51 : decode cX7_couplesOf 51 = .ok (.istore 4, 2) := dk_54 4 (dk_at dksX7_couplesOf_2 4 rfl rfl)
theorem dX7_couplesOf_53 : decode cX7_couplesOf 53 = .ok (.iload_n 2, 1) := dk_28 (dk_at dksX7_couplesOf_2 6 rfl rfl)
theorem dX7_couplesOf_54 : decode cX7_couplesOf 54 = .ok (.iconst 1, 1) := dk_4 (dk_at dksX7_couplesOf_2 7 rfl rfl)
theorem dX7_couplesOf_55 : decode cX7_couplesOf 55 = .ok (.iadd, 1) := dk_96 (dk_at dksX7_couplesOf_2 8 rfl rfl)
theorem dX7_couplesOf_56 : decode cX7_couplesOf 56 = .ok (.istore 5, 2) := dk_54 5 (dk_at dksX7_couplesOf_2 9 rfl rfl)
theorem dX7_couplesOf_58 : decode cX7_couplesOf 58 = .ok (.iload 5, 2) := dk_21 5 (dk_at dksX7_couplesOf_2 11 rfl rfl)
theorem dX7_couplesOf_60 : decode cX7_couplesOf 60 = .ok (.aload_n 0, 1) := dk_42 (dk_at dksX7_couplesOf_2 13 rfl rfl)
theorem dX7_couplesOf_61 : decode cX7_couplesOf 61 = .ok (.getfield 42, 3) := dk_180 0 42 (dk_at dksX7_couplesOf_2 14 rfl rfl)
theorem dX7_couplesOf_64 : decode cX7_couplesOf 64 = .ok (.iconst 0, 1) := dk_3 (dk_at dksX7_couplesOf_2 17 rfl rfl)
theorem dX7_couplesOf_65 : decode cX7_couplesOf 65 = .ok (.iaload, 1) := dk_46 (dk_at dksX7_couplesOf_2 18 rfl rfl)
theorem dX7_couplesOf_66 : decode cX7_couplesOf 66 = .ok (.if_icmp .ge 49, 3) := dk_162 0 49 (dk_at dksX7_couplesOf_2 19 rfl rfl)
theorem dX7_couplesOf_69 : decode cX7_couplesOf 69 = .ok (.iload_n 3, 1) := dk_29 (dk_at dksX7_couplesOf_2 22 rfl rfl)
theorem dX7_couplesOf_70 : decode cX7_couplesOf 70 = .ok (.iload 5, 2) := dk_21 5 (dk_at dksX7_couplesOf_3 0 rfl rfl)
theorem dX7_couplesOf_72 : decode cX7_couplesOf 72 = .ok (.invokestatic 395, 3) := dk_184 1 139 (dk_at dksX7_couplesOf_3 2 rfl rfl)
theorem dX7_couplesOf_75 : decode cX7_couplesOf 75 = .ok (.ifCond .eq 34, 3) := dk_153 0 34 (dk_at dksX7_couplesOf_3 5 rfl rfl)
theorem dX7_couplesOf_78 : decode cX7_couplesOf 78 = .ok (.aload_n 0, 1) := dk_42 (dk_at dksX7_couplesOf_3 8 rfl rfl)
theorem dX7_couplesOf_79 : decode cX7_couplesOf 79 = .ok (.iload_n 2, 1) := dk_28 (dk_at dksX7_couplesOf_3 9 rfl rfl)
theorem dX7_couplesOf_80 : decode cX7_couplesOf 80 = .ok (.iload 5, 2) := dk_21 5 (dk_at dksX7_couplesOf_3 10 rfl rfl)
theorem dX7_couplesOf_82 : decode cX7_couplesOf 82 = .ok (.invokevirtual 429, 3) := dk_182 1 173 (dk_at dksX7_couplesOf_3 12 rfl rfl)
theorem dX7_couplesOf_85 : decode cX7_couplesOf 85 = .ok (.ifCond .eq 24, 3) := dk_153 0 24 (dk_at dksX7_couplesOf_3 15 rfl rfl)
theorem dX7_couplesOf_88 : decode cX7_couplesOf 88 = .ok (.iload 4, 2) := dk_21 4 (dk_at dksX7_couplesOf_3 18 rfl rfl)
theorem dX7_couplesOf_90 : decode cX7_couplesOf 90 = .ok (.iconst 1, 1) := dk_4 (dk_at dksX7_couplesOf_3 20 rfl rfl)
theorem dX7_couplesOf_91 : decode cX7_couplesOf 91 = .ok (.aload_n 0, 1) := dk_42 (dk_at dksX7_couplesOf_3 21 rfl rfl)
theorem dX7_couplesOf_92 : decode cX7_couplesOf 92 = .ok (.iload_n 3, 1) := dk_29 (dk_at dksX7_couplesOf_3 22 rfl rfl)
theorem dX7_couplesOf_93 : decode cX7_couplesOf 93 = .ok (.iconst 1, 1) := dk_4 (dk_at dksX7_couplesOf_3 23 rfl rfl)
theorem dX7_couplesOf_94 : decode cX7_couplesOf 94 = .ok (.iload 5, 2) := dk_21 5 (dk_at dksX7_couplesOf_4 0 rfl rfl)
theorem dX7_couplesOf_96 : decode cX7_couplesOf 96 = .ok (.ishl, 1) := dk_120 (dk_at dksX7_couplesOf_4 2 rfl rfl)
theorem dX7_couplesOf_97 : decode cX7_couplesOf 97 = .ok (.iconst (-1), 1) := dk_2 (dk_at dksX7_couplesOf_4 3 rfl rfl)
theorem dX7_couplesOf_98 : decode cX7_couplesOf 98 = .ok (.ixor, 1) := dk_130 (dk_at dksX7_couplesOf_4 4 rfl rfl)
theorem dX7_couplesOf_99 : decode cX7_couplesOf 99 = .ok (.iand, 1) := dk_126 (dk_at dksX7_couplesOf_4 5 rfl rfl)
theorem dX7_couplesOf_100 : decode cX7_couplesOf 100 = .ok (.invokevirtual 432, 3) := dk_182 1 176 (dk_at dksX7_couplesOf_4 6 rfl rfl)
theorem dX7_couplesOf_103 : decode cX7_couplesOf 103 = .ok (.iadd, 1) := dk_96 (dk_at dksX7_couplesOf_4 9 rfl rfl)
theorem dX7_couplesOf_104 : decode cX7_couplesOf 104 = .ok (.invokestatic 298, 3) := dk_184 1 42 (dk_at dksX7_couplesOf_4 10 rfl rfl)
theorem dX7_couplesOf_107 : decode cX7_couplesOf 107 = .ok (.istore 4, 2) := dk_54 4 (dk_at dksX7_couplesOf_4 13 rfl rfl)
theorem dX7_couplesOf_109 : decode cX7_couplesOf 109 = .ok (.iinc 5 1, 3) := dk_132 5 1 (dk_at dksX7_couplesOf_4 15 rfl rfl)
theorem dX7_couplesOf_112 : decode cX7_couplesOf 112 = .ok (.goto (-54), 3) := dk_167 255 202 (dk_at dksX7_couplesOf_4 18 rfl rfl)
theorem dX7_couplesOf_115 : decode cX7_couplesOf 115 = .ok (.iload 4, 2) := dk_21 4 (dk_at dksX7_couplesOf_4 21 rfl rfl)
theorem dX7_couplesOf_117 : decode cX7_couplesOf 117 = .ok (.ireturn, 1) := dk_172 (dk_at dksX7_couplesOf_4 23 rfl rfl)
abbrev cX7_nod : ByteArray := prog_20_method_89_code
def yX7_nod : MethodName := ⟨RX7, "nod", "(II)I"⟩
def dkwX7_nod_3 : List UInt8 := [29, 172]
abbrev dktX7_nod_3 : List UInt8 := dkwX7_nod_3 ++ []
def dkwX7_nod_2 : List UInt8 := [180, 0, 73, 27, 92, 46, 28, 96, 79, 42, 182, 1, 67, 62, 42, 180, 0, 73, 27, 92, 46, 28, 100, 79]
abbrev dktX7_nod_2 : List UInt8 := dkwX7_nod_2 ++ dktX7_nod_3
def dkwX7_nod_1 : List UInt8 := [182, 1, 13, 172, 28, 133, 9, 20, 1, 171, 184, 0, 146, 154, 0, 9, 42, 5, 182, 1, 13, 172, 42]
abbrev dktX7_nod_1 : List UInt8 := dkwX7_nod_1 ++ dktX7_nod_2
def dkwX7_nod_0 : List UInt8 := [42, 3, 181, 0, 143, 42, 27, 182, 1, 77, 153, 0, 12, 42, 27, 182, 1, 80, 2, 160, 0, 9, 42, 4]
abbrev dktX7_nod_0 : List UInt8 := dkwX7_nod_0 ++ dktX7_nod_1
theorem dksX7_nod_0 : cX7_nod.data.toList.drop 0 = dktX7_nod_0 := by decide +kernel
theorem dksX7_nod_1 : cX7_nod.data.toList.drop 24 = dktX7_nod_1 := dk_seg dksX7_nod_0 24 rfl rfl
theorem dksX7_nod_2 : cX7_nod.data.toList.drop 47 = dktX7_nod_2 := dk_seg dksX7_nod_1 23 rfl rfl
theorem dksX7_nod_3 : cX7_nod.data.toList.drop 71 = dktX7_nod_3 := dk_seg dksX7_nod_2 24 rfl rfl
theorem dX7_nod_0 : decode cX7_nod 0 = .ok (.aload_n 0, 1) := dk_42 (dk_at dksX7_nod_0 0 rfl rfl)
theorem dX7_nod_1 : decode cX7_nod 1 = .ok (.iconst 0, 1) := dk_3 (dk_at dksX7_nod_0 1 rfl rfl)
theorem dX7_nod_2 : decode cX7_nod 2 = .ok (.putfield 143, 3) := dk_181 0 143 (dk_at dksX7_nod_0 2 rfl rfl)
theorem dX7_nod_5 : decode cX7_nod 5 = .ok (.aload_n 0, 1) := dk_42 (dk_at dksX7_nod_0 5 rfl rfl)
theorem dX7_nod_6 : decode cX7_nod 6 = .ok (.iload_n 1, 1) := dk_27 (dk_at dksX7_nod_0 6 rfl rfl)
theorem dX7_nod_7 : decode cX7_nod 7 = .ok (.invokevirtual 333, 3) := dk_182 1 77 (dk_at dksX7_nod_0 7 rfl rfl)
theorem dX7_nod_10 : decode cX7_nod 10 = .ok (.ifCond .eq 12, 3) := dk_153 0 12 (dk_at dksX7_nod_0 10 rfl rfl)
theorem dX7_nod_13 : decode cX7_nod 13 = .ok (.aload_n 0, 1) := dk_42 (dk_at dksX7_nod_0 13 rfl rfl)
theorem dX7_nod_14 : decode cX7_nod 14 = .ok (.iload_n 1, 1) := dk_27 (dk_at dksX7_nod_0 14 rfl rfl)
theorem dX7_nod_15 : decode cX7_nod 15 = .ok (.invokevirtual 336, 3) := dk_182 1 80 (dk_at dksX7_nod_0 15 rfl rfl)
theorem dX7_nod_18 : decode cX7_nod 18 = .ok (.iconst (-1), 1) := dk_2 (dk_at dksX7_nod_0 18 rfl rfl)
theorem dX7_nod_19 : decode cX7_nod 19 = .ok (.if_icmp .ne 9, 3) := dk_160 0 9 (dk_at dksX7_nod_0 19 rfl rfl)
theorem dX7_nod_22 : decode cX7_nod 22 = .ok (.aload_n 0, 1) := dk_42 (dk_at dksX7_nod_0 22 rfl rfl)
theorem dX7_nod_23 : decode cX7_nod 23 = .ok (.iconst 1, 1) := dk_4 (dk_at dksX7_nod_0 23 rfl rfl)
theorem dX7_nod_24 : decode cX7_nod 24 = .ok (.invokevirtual 269, 3) := dk_182 1 13 (dk_at dksX7_nod_1 0 rfl rfl)
theorem dX7_nod_27 : decode cX7_nod 27 = .ok (.ireturn, 1) := dk_172 (dk_at dksX7_nod_1 3 rfl rfl)
theorem dX7_nod_28 : decode cX7_nod 28 = .ok (.iload_n 2, 1) := dk_28 (dk_at dksX7_nod_1 4 rfl rfl)
theorem dX7_nod_29 : decode cX7_nod 29 = .ok (.i2l, 1) := dk_133 (dk_at dksX7_nod_1 5 rfl rfl)
theorem dX7_nod_30 : decode cX7_nod 30 = .ok (.lconst 0, 1) := dk_9 (dk_at dksX7_nod_1 6 rfl rfl)
theorem dX7_nod_31 : decode cX7_nod 31 = .ok (.ldc2_w 427, 3) := dk_20 1 171 (dk_at dksX7_nod_1 7 rfl rfl)
theorem dX7_nod_34 : decode cX7_nod 34 = .ok (.invokestatic 146, 3) := dk_184 0 146 (dk_at dksX7_nod_1 10 rfl rfl)
theorem dX7_nod_37 : decode cX7_nod 37 = .ok (.ifCond .ne 9, 3) := dk_154 0 9 (dk_at dksX7_nod_1 13 rfl rfl)
theorem dX7_nod_40 : decode cX7_nod 40 = .ok (.aload_n 0, 1) := dk_42 (dk_at dksX7_nod_1 16 rfl rfl)
theorem dX7_nod_41 : decode cX7_nod 41 = .ok (.iconst 2, 1) := dk_5 (dk_at dksX7_nod_1 17 rfl rfl)
theorem dX7_nod_42 : decode cX7_nod 42 = .ok (.invokevirtual 269, 3) := dk_182 1 13 (dk_at dksX7_nod_1 18 rfl rfl)
theorem dX7_nod_45 : decode cX7_nod 45 = .ok (.ireturn, 1) := dk_172 (dk_at dksX7_nod_1 21 rfl rfl)
theorem dX7_nod_46 : decode cX7_nod 46 = .ok (.aload_n 0, 1) := dk_42 (dk_at dksX7_nod_1 22 rfl rfl)
theorem dX7_nod_47 : decode cX7_nod 47 = .ok (.getfield 73, 3) := dk_180 0 73 (dk_at dksX7_nod_2 0 rfl rfl)
theorem dX7_nod_50 : decode cX7_nod 50 = .ok (.iload_n 1, 1) := dk_27 (dk_at dksX7_nod_2 3 rfl rfl)
theorem dX7_nod_51 : decode cX7_nod 51 = .ok (.dup2, 1) := dk_92 (dk_at dksX7_nod_2 4 rfl rfl)
theorem dX7_nod_52 : decode cX7_nod 52 = .ok (.iaload, 1) := dk_46 (dk_at dksX7_nod_2 5 rfl rfl)
theorem dX7_nod_53 : decode cX7_nod 53 = .ok (.iload_n 2, 1) := dk_28 (dk_at dksX7_nod_2 6 rfl rfl)
theorem dX7_nod_54 : decode cX7_nod 54 = .ok (.iadd, 1) := dk_96 (dk_at dksX7_nod_2 7 rfl rfl)
theorem dX7_nod_55 : decode cX7_nod 55 = .ok (.iastore, 1) := dk_79 (dk_at dksX7_nod_2 8 rfl rfl)
theorem dX7_nod_56 : decode cX7_nod 56 = .ok (.aload_n 0, 1) := dk_42 (dk_at dksX7_nod_2 9 rfl rfl)
theorem dX7_nod_57 : decode cX7_nod 57 = .ok (.invokevirtual 323, 3) := dk_182 1 67 (dk_at dksX7_nod_2 10 rfl rfl)
theorem dX7_nod_60 : decode cX7_nod 60 = .ok (.istore_n 3, 1) := dk_62 (dk_at dksX7_nod_2 13 rfl rfl)
theorem dX7_nod_61 : decode cX7_nod 61 = .ok (.aload_n 0, 1) := dk_42 (dk_at dksX7_nod_2 14 rfl rfl)
theorem dX7_nod_62 : decode cX7_nod 62 = .ok (.getfield 73, 3) := dk_180 0 73 (dk_at dksX7_nod_2 15 rfl rfl)
theorem dX7_nod_65 : decode cX7_nod 65 = .ok (.iload_n 1, 1) := dk_27 (dk_at dksX7_nod_2 18 rfl rfl)
theorem dX7_nod_66 : decode cX7_nod 66 = .ok (.dup2, 1) := dk_92 (dk_at dksX7_nod_2 19 rfl rfl)
theorem dX7_nod_67 : decode cX7_nod 67 = .ok (.iaload, 1) := dk_46 (dk_at dksX7_nod_2 20 rfl rfl)
theorem dX7_nod_68 : decode cX7_nod 68 = .ok (.iload_n 2, 1) := dk_28 (dk_at dksX7_nod_2 21 rfl rfl)
theorem dX7_nod_69 : decode cX7_nod 69 = .ok (.isub, 1) := dk_100 (dk_at dksX7_nod_2 22 rfl rfl)
theorem dX7_nod_70 : decode cX7_nod 70 = .ok (.iastore, 1) := dk_79 (dk_at dksX7_nod_2 23 rfl rfl)
theorem dX7_nod_71 : decode cX7_nod 71 = .ok (.iload_n 3, 1) := dk_29 (dk_at dksX7_nod_3 0 rfl rfl)
theorem dX7_nod_72 : decode cX7_nod 72 = .ok (.ireturn, 1) := dk_172 (dk_at dksX7_nod_3 1 rfl rfl)
abbrev cX7_fair : ByteArray := prog_20_method_90_code
def yX7_fair : MethodName := ⟨RX7, "fair", "()I"⟩
def dkwX7_fair_2 : List UInt8 := [160, 0, 5, 28, 60, 132, 2, 1, 167, 255, 222, 42, 42, 180, 0, 94, 3, 182, 1, 130, 27, 172]
abbrev dktX7_fair_2 : List UInt8 := dkwX7_fair_2 ++ []
def dkwX7_fair_1 : List UInt8 := [163, 0, 33, 27, 2, 160, 0, 28, 42, 28, 182, 1, 125, 87, 42, 182, 1, 74, 42, 182, 1, 83]
abbrev dktX7_fair_1 : List UInt8 := dkwX7_fair_1 ++ dktX7_fair_2
def dkwX7_fair_0 : List UInt8 := [42, 3, 181, 0, 143, 42, 42, 180, 0, 94, 3, 182, 1, 91, 2, 60, 3, 61, 28, 17, 3, 231]
abbrev dktX7_fair_0 : List UInt8 := dkwX7_fair_0 ++ dktX7_fair_1
theorem dksX7_fair_0 : cX7_fair.data.toList.drop 0 = dktX7_fair_0 := by decide +kernel
theorem dksX7_fair_1 : cX7_fair.data.toList.drop 22 = dktX7_fair_1 := dk_seg dksX7_fair_0 22 rfl rfl
theorem dksX7_fair_2 : cX7_fair.data.toList.drop 44 = dktX7_fair_2 := dk_seg dksX7_fair_1 22 rfl rfl
theorem dX7_fair_0 : decode cX7_fair 0 = .ok (.aload_n 0, 1) := dk_42 (dk_at dksX7_fair_0 0 rfl rfl)
theorem dX7_fair_1 : decode cX7_fair 1 = .ok (.iconst 0, 1) := dk_3 (dk_at dksX7_fair_0 1 rfl rfl)
theorem dX7_fair_2 : decode cX7_fair 2 = .ok (.putfield 143, 3) := dk_181 0 143 (dk_at dksX7_fair_0 2 rfl rfl)
theorem dX7_fair_5 : decode cX7_fair 5 = .ok (.aload_n 0, 1) := dk_42 (dk_at dksX7_fair_0 5 rfl rfl)
theorem dX7_fair_6 : decode cX7_fair 6 = .ok (.aload_n 0, 1) := dk_42 (dk_at dksX7_fair_0 6 rfl rfl)
theorem dX7_fair_7 : decode cX7_fair 7 = .ok (.getfield 94, 3) := dk_180 0 94 (dk_at dksX7_fair_0 7 rfl rfl)
theorem dX7_fair_10 : decode cX7_fair 10 = .ok (.iconst 0, 1) := dk_3 (dk_at dksX7_fair_0 10 rfl rfl)
theorem dX7_fair_11 : decode cX7_fair 11 = .ok (.invokevirtual 347, 3) := dk_182 1 91 (dk_at dksX7_fair_0 11 rfl rfl)
theorem dX7_fair_14 : decode cX7_fair 14 = .ok (.iconst (-1), 1) := dk_2 (dk_at dksX7_fair_0 14 rfl rfl)
theorem dX7_fair_15 : decode cX7_fair 15 = .ok (.istore_n 1, 1) := dk_60 (dk_at dksX7_fair_0 15 rfl rfl)
theorem dX7_fair_16 : decode cX7_fair 16 = .ok (.iconst 0, 1) := dk_3 (dk_at dksX7_fair_0 16 rfl rfl)
theorem dX7_fair_17 : decode cX7_fair 17 = .ok (.istore_n 2, 1) := dk_61 (dk_at dksX7_fair_0 17 rfl rfl)
theorem dX7_fair_18 : decode cX7_fair 18 = .ok (.iload_n 2, 1) := dk_28 (dk_at dksX7_fair_0 18 rfl rfl)
theorem dX7_fair_19 : decode cX7_fair 19 = .ok (.sipush 999, 3) := dk_17 3 231 (dk_at dksX7_fair_0 19 rfl rfl)
theorem dX7_fair_22 : decode cX7_fair 22 = .ok (.if_icmp .gt 33, 3) := dk_163 0 33 (dk_at dksX7_fair_1 0 rfl rfl)
theorem dX7_fair_25 : decode cX7_fair 25 = .ok (.iload_n 1, 1) := dk_27 (dk_at dksX7_fair_1 3 rfl rfl)
theorem dX7_fair_26 : decode cX7_fair 26 = .ok (.iconst (-1), 1) := dk_2 (dk_at dksX7_fair_1 4 rfl rfl)
theorem dX7_fair_27 : decode cX7_fair 27 = .ok (.if_icmp .ne 28, 3) := dk_160 0 28 (dk_at dksX7_fair_1 5 rfl rfl)
theorem dX7_fair_30 : decode cX7_fair 30 = .ok (.aload_n 0, 1) := dk_42 (dk_at dksX7_fair_1 8 rfl rfl)
theorem dX7_fair_31 : decode cX7_fair 31 = .ok (.iload_n 2, 1) := dk_28 (dk_at dksX7_fair_1 9 rfl rfl)
theorem dX7_fair_32 : decode cX7_fair 32 = .ok (.invokevirtual 381, 3) := dk_182 1 125 (dk_at dksX7_fair_1 10 rfl rfl)
theorem dX7_fair_35 : decode cX7_fair 35 = .ok (.pop, 1) := dk_87 (dk_at dksX7_fair_1 13 rfl rfl)
theorem dX7_fair_36 : decode cX7_fair 36 = .ok (.aload_n 0, 1) := dk_42 (dk_at dksX7_fair_1 14 rfl rfl)
theorem dX7_fair_37 : decode cX7_fair 37 = .ok (.invokevirtual 330, 3) := dk_182 1 74 (dk_at dksX7_fair_1 15 rfl rfl)
theorem dX7_fair_40 : decode cX7_fair 40 = .ok (.aload_n 0, 1) := dk_42 (dk_at dksX7_fair_1 18 rfl rfl)
theorem dX7_fair_41 : decode cX7_fair 41 = .ok (.invokevirtual 339, 3) := dk_182 1 83 (dk_at dksX7_fair_1 19 rfl rfl)
theorem dX7_fair_44 : decode cX7_fair 44 = .ok (.if_icmp .ne 5, 3) := dk_160 0 5 (dk_at dksX7_fair_2 0 rfl rfl)
theorem dX7_fair_47 : decode cX7_fair 47 = .ok (.iload_n 2, 1) := dk_28 (dk_at dksX7_fair_2 3 rfl rfl)
theorem dX7_fair_48 : decode cX7_fair 48 = .ok (.istore_n 1, 1) := dk_60 (dk_at dksX7_fair_2 4 rfl rfl)
theorem dX7_fair_49 : decode cX7_fair 49 = .ok (.iinc 2 1, 3) := dk_132 2 1 (dk_at dksX7_fair_2 5 rfl rfl)
theorem dX7_fair_52 : decode cX7_fair 52 = .ok (.goto (-34), 3) := dk_167 255 222 (dk_at dksX7_fair_2 8 rfl rfl)
theorem dX7_fair_55 : decode cX7_fair 55 = .ok (.aload_n 0, 1) := dk_42 (dk_at dksX7_fair_2 11 rfl rfl)
theorem dX7_fair_56 : decode cX7_fair 56 = .ok (.aload_n 0, 1) := dk_42 (dk_at dksX7_fair_2 12 rfl rfl)
theorem dX7_fair_57 : decode cX7_fair 57 = .ok (.getfield 94, 3) := dk_180 0 94 (dk_at dksX7_fair_2 13 rfl rfl)
theorem dX7_fair_60 : decode cX7_fair 60 = .ok (.iconst 0, 1) := dk_3 (dk_at dksX7_fair_2 16 rfl rfl)
theorem dX7_fair_61 : decode cX7_fair 61 = .ok (.invokevirtual 386, 3) := dk_182 1 130 (dk_at dksX7_fair_2 17 rfl rfl)
theorem dX7_fair_64 : decode cX7_fair 64 = .ok (.iload_n 1, 1) := dk_27 (dk_at dksX7_fair_2 20 rfl rfl)
theorem dX7_fair_65 : decode cX7_fair 65 = .ok (.ireturn, 1) := dk_172 (dk_at dksX7_fair_2 21 rfl rfl)
abbrev cX7_top : ByteArray := prog_20_method_91_code
def yX7_top : MethodName := ⟨RX7, "top", "(I)I"⟩
def dkwX7_top_3 : List UInt8 := [182, 1, 130, 28, 172]
abbrev dktX7_top_3 : List UInt8 := dkwX7_top_3 ++ []
def dkwX7_top_2 : List UInt8 := [180, 0, 73, 42, 180, 0, 70, 42, 180, 0, 150, 4, 100, 46, 46, 61, 42, 42, 180, 0, 94, 3]
abbrev dktX7_top_2 : List UInt8 := dkwX7_top_2 ++ dktX7_top_3
def dkwX7_top_1 : List UInt8 := [180, 0, 150, 154, 0, 5, 2, 172, 42, 42, 180, 0, 94, 3, 182, 1, 91, 42, 27, 182, 1, 125, 87, 42]
abbrev dktX7_top_1 : List UInt8 := dkwX7_top_1 ++ dktX7_top_2
def dkwX7_top_0 : List UInt8 := [42, 3, 181, 0, 143, 27, 133, 9, 20, 1, 179, 184, 0, 146, 154, 0, 9, 42, 4, 182, 1, 13, 172, 42]
abbrev dktX7_top_0 : List UInt8 := dkwX7_top_0 ++ dktX7_top_1
theorem dksX7_top_0 : cX7_top.data.toList.drop 0 = dktX7_top_0 := by decide +kernel
theorem dksX7_top_1 : cX7_top.data.toList.drop 24 = dktX7_top_1 := dk_seg dksX7_top_0 24 rfl rfl
theorem dksX7_top_2 : cX7_top.data.toList.drop 48 = dktX7_top_2 := dk_seg dksX7_top_1 24 rfl rfl
theorem dksX7_top_3 : cX7_top.data.toList.drop 70 = dktX7_top_3 := dk_seg dksX7_top_2 22 rfl rfl
theorem dX7_top_0 : decode cX7_top 0 = .ok (.aload_n 0, 1) := dk_42 (dk_at dksX7_top_0 0 rfl rfl)
theorem dX7_top_1 : decode cX7_top 1 = .ok (.iconst 0, 1) := dk_3 (dk_at dksX7_top_0 1 rfl rfl)
theorem dX7_top_2 : decode cX7_top 2 = .ok (.putfield 143, 3) := dk_181 0 143 (dk_at dksX7_top_0 2 rfl rfl)
theorem dX7_top_5 : decode cX7_top 5 = .ok (.iload_n 1, 1) := dk_27 (dk_at dksX7_top_0 5 rfl rfl)
theorem dX7_top_6 : decode cX7_top 6 = .ok (.i2l, 1) := dk_133 (dk_at dksX7_top_0 6 rfl rfl)
theorem dX7_top_7 : decode cX7_top 7 = .ok (.lconst 0, 1) := dk_9 (dk_at dksX7_top_0 7 rfl rfl)
theorem dX7_top_8 : decode cX7_top 8 = .ok (.ldc2_w 435, 3) := dk_20 1 179 (dk_at dksX7_top_0 8 rfl rfl)
theorem dX7_top_11 : decode cX7_top 11 = .ok (.invokestatic 146, 3) := dk_184 0 146 (dk_at dksX7_top_0 11 rfl rfl)
theorem dX7_top_14 : decode cX7_top 14 = .ok (.ifCond .ne 9, 3) := dk_154 0 9 (dk_at dksX7_top_0 14 rfl rfl)
theorem dX7_top_17 : decode cX7_top 17 = .ok (.aload_n 0, 1) := dk_42 (dk_at dksX7_top_0 17 rfl rfl)
theorem dX7_top_18 : decode cX7_top 18 = .ok (.iconst 1, 1) := dk_4 (dk_at dksX7_top_0 18 rfl rfl)
theorem dX7_top_19 : decode cX7_top 19 = .ok (.invokevirtual 269, 3) := dk_182 1 13 (dk_at dksX7_top_0 19 rfl rfl)
theorem dX7_top_22 : decode cX7_top 22 = .ok (.ireturn, 1) := dk_172 (dk_at dksX7_top_0 22 rfl rfl)
theorem dX7_top_23 : decode cX7_top 23 = .ok (.aload_n 0, 1) := dk_42 (dk_at dksX7_top_0 23 rfl rfl)
theorem dX7_top_24 : decode cX7_top 24 = .ok (.getfield 150, 3) := dk_180 0 150 (dk_at dksX7_top_1 0 rfl rfl)
theorem dX7_top_27 : decode cX7_top 27 = .ok (.ifCond .ne 5, 3) := dk_154 0 5 (dk_at dksX7_top_1 3 rfl rfl)
theorem dX7_top_30 : decode cX7_top 30 = .ok (.iconst (-1), 1) := dk_2 (dk_at dksX7_top_1 6 rfl rfl)
theorem dX7_top_31 : decode cX7_top 31 = .ok (.ireturn, 1) := dk_172 (dk_at dksX7_top_1 7 rfl rfl)
theorem dX7_top_32 : decode cX7_top 32 = .ok (.aload_n 0, 1) := dk_42 (dk_at dksX7_top_1 8 rfl rfl)
theorem dX7_top_33 : decode cX7_top 33 = .ok (.aload_n 0, 1) := dk_42 (dk_at dksX7_top_1 9 rfl rfl)
theorem dX7_top_34 : decode cX7_top 34 = .ok (.getfield 94, 3) := dk_180 0 94 (dk_at dksX7_top_1 10 rfl rfl)
theorem dX7_top_37 : decode cX7_top 37 = .ok (.iconst 0, 1) := dk_3 (dk_at dksX7_top_1 13 rfl rfl)
theorem dX7_top_38 : decode cX7_top 38 = .ok (.invokevirtual 347, 3) := dk_182 1 91 (dk_at dksX7_top_1 14 rfl rfl)
theorem dX7_top_41 : decode cX7_top 41 = .ok (.aload_n 0, 1) := dk_42 (dk_at dksX7_top_1 17 rfl rfl)
theorem dX7_top_42 : decode cX7_top 42 = .ok (.iload_n 1, 1) := dk_27 (dk_at dksX7_top_1 18 rfl rfl)
theorem dX7_top_43 : decode cX7_top 43 = .ok (.invokevirtual 381, 3) := dk_182 1 125 (dk_at dksX7_top_1 19 rfl rfl)
theorem dX7_top_46 : decode cX7_top 46 = .ok (.pop, 1) := dk_87 (dk_at dksX7_top_1 22 rfl rfl)
theorem dX7_top_47 : decode cX7_top 47 = .ok (.aload_n 0, 1) := dk_42 (dk_at dksX7_top_1 23 rfl rfl)
theorem dX7_top_48 : decode cX7_top 48 = .ok (.getfield 73, 3) := dk_180 0 73 (dk_at dksX7_top_2 0 rfl rfl)
theorem dX7_top_51 : decode cX7_top 51 = .ok (.aload_n 0, 1) := dk_42 (dk_at dksX7_top_2 3 rfl rfl)
theorem dX7_top_52 : decode cX7_top 52 = .ok (.getfield 70, 3) := dk_180 0 70 (dk_at dksX7_top_2 4 rfl rfl)
theorem dX7_top_55 : decode cX7_top 55 = .ok (.aload_n 0, 1) := dk_42 (dk_at dksX7_top_2 7 rfl rfl)
theorem dX7_top_56 : decode cX7_top 56 = .ok (.getfield 150, 3) := dk_180 0 150 (dk_at dksX7_top_2 8 rfl rfl)
theorem dX7_top_59 : decode cX7_top 59 = .ok (.iconst 1, 1) := dk_4 (dk_at dksX7_top_2 11 rfl rfl)
theorem dX7_top_60 : decode cX7_top 60 = .ok (.isub, 1) := dk_100 (dk_at dksX7_top_2 12 rfl rfl)
theorem dX7_top_61 : decode cX7_top 61 = .ok (.iaload, 1) := dk_46 (dk_at dksX7_top_2 13 rfl rfl)
theorem dX7_top_62 : decode cX7_top 62 = .ok (.iaload, 1) := dk_46 (dk_at dksX7_top_2 14 rfl rfl)
theorem dX7_top_63 : decode cX7_top 63 = .ok (.istore_n 2, 1) := dk_61 (dk_at dksX7_top_2 15 rfl rfl)
theorem dX7_top_64 : decode cX7_top 64 = .ok (.aload_n 0, 1) := dk_42 (dk_at dksX7_top_2 16 rfl rfl)
theorem dX7_top_65 : decode cX7_top 65 = .ok (.aload_n 0, 1) := dk_42 (dk_at dksX7_top_2 17 rfl rfl)
theorem dX7_top_66 : decode cX7_top 66 = .ok (.getfield 94, 3) := dk_180 0 94 (dk_at dksX7_top_2 18 rfl rfl)
theorem dX7_top_69 : decode cX7_top 69 = .ok (.iconst 0, 1) := dk_3 (dk_at dksX7_top_2 21 rfl rfl)
theorem dX7_top_70 : decode cX7_top 70 = .ok (.invokevirtual 386, 3) := dk_182 1 130 (dk_at dksX7_top_3 0 rfl rfl)
theorem dX7_top_73 : decode cX7_top 73 = .ok (.iload_n 2, 1) := dk_28 (dk_at dksX7_top_3 3 rfl rfl)
theorem dX7_top_74 : decode cX7_top 74 = .ok (.ireturn, 1) := dk_172 (dk_at dksX7_top_3 4 rfl rfl)
abbrev cX7_hungriest : ByteArray := prog_20_method_92_code
def yX7_hungriest : MethodName := ⟨RX7, "hungriest", "()I"⟩
def dkwX7_hungriest_3 : List UInt8 := [167, 255, 198, 27, 172]
abbrev dktX7_hungriest_3 : List UInt8 := dkwX7_hungriest_3 ++ []
def dkwX7_hungriest_2 : List UInt8 := [167, 0, 19, 29, 60, 42, 180, 0, 55, 29, 46, 42, 180, 0, 73, 29, 46, 100, 61, 132, 3, 1]
abbrev dktX7_hungriest_2 : List UInt8 := dkwX7_hungriest_2 ++ dktX7_hungriest_3
def dkwX7_hungriest_1 : List UInt8 := [182, 1, 80, 2, 159, 0, 39, 42, 180, 0, 55, 29, 46, 42, 180, 0, 73, 29, 46, 100, 28, 163, 0, 6]
abbrev dktX7_hungriest_1 : List UInt8 := dkwX7_hungriest_1 ++ dktX7_hungriest_2
def dkwX7_hungriest_0 : List UInt8 := [42, 3, 181, 0, 143, 2, 60, 3, 61, 3, 62, 29, 42, 180, 0, 42, 3, 46, 162, 0, 54, 42, 29]
abbrev dktX7_hungriest_0 : List UInt8 := dkwX7_hungriest_0 ++ dktX7_hungriest_1
theorem dksX7_hungriest_0 : cX7_hungriest.data.toList.drop 0 = dktX7_hungriest_0 := by decide +kernel
theorem dksX7_hungriest_1 : cX7_hungriest.data.toList.drop 23 = dktX7_hungriest_1 := dk_seg dksX7_hungriest_0 23 rfl rfl
theorem dksX7_hungriest_2 : cX7_hungriest.data.toList.drop 47 = dktX7_hungriest_2 := dk_seg dksX7_hungriest_1 24 rfl rfl
theorem dksX7_hungriest_3 : cX7_hungriest.data.toList.drop 69 = dktX7_hungriest_3 := dk_seg dksX7_hungriest_2 22 rfl rfl
theorem dX7_hungriest_0 : decode cX7_hungriest 0 = .ok (.aload_n 0, 1) := dk_42 (dk_at dksX7_hungriest_0 0 rfl rfl)
theorem dX7_hungriest_1 : decode cX7_hungriest 1 = .ok (.iconst 0, 1) := dk_3 (dk_at dksX7_hungriest_0 1 rfl rfl)
theorem dX7_hungriest_2 : decode cX7_hungriest 2 = .ok (.putfield 143, 3) := dk_181 0 143 (dk_at dksX7_hungriest_0 2 rfl rfl)
theorem dX7_hungriest_5 : decode cX7_hungriest 5 = .ok (.iconst (-1), 1) := dk_2 (dk_at dksX7_hungriest_0 5 rfl rfl)
theorem dX7_hungriest_6 : decode cX7_hungriest 6 = .ok (.istore_n 1, 1) := dk_60 (dk_at dksX7_hungriest_0 6 rfl rfl)
theorem dX7_hungriest_7 : decode cX7_hungriest 7 = .ok (.iconst 0, 1) := dk_3 (dk_at dksX7_hungriest_0 7 rfl rfl)
theorem dX7_hungriest_8 : decode cX7_hungriest 8 = .ok (.istore_n 2, 1) := dk_61 (dk_at dksX7_hungriest_0 8 rfl rfl)
theorem dX7_hungriest_9 : decode cX7_hungriest 9 = .ok (.iconst 0, 1) := dk_3 (dk_at dksX7_hungriest_0 9 rfl rfl)
theorem dX7_hungriest_10 : decode cX7_hungriest 10 = .ok (.istore_n 3, 1) := dk_62 (dk_at dksX7_hungriest_0 10 rfl rfl)
theorem dX7_hungriest_11 : decode cX7_hungriest 11 = .ok (.iload_n 3, 1) := dk_29 (dk_at dksX7_hungriest_0 11 rfl rfl)
theorem dX7_hungriest_12 : decode cX7_hungriest 12 = .ok (.aload_n 0, 1) := dk_42 (dk_at dksX7_hungriest_0 12 rfl rfl)
theorem dX7_hungriest_13 : decode cX7_hungriest 13 = .ok (.getfield 42, 3) := dk_180 0 42 (dk_at dksX7_hungriest_0 13 rfl rfl)
theorem dX7_hungriest_16 : decode cX7_hungriest 16 = .ok (.iconst 0, 1) := dk_3 (dk_at dksX7_hungriest_0 16 rfl rfl)
theorem dX7_hungriest_17 : decode cX7_hungriest 17 = .ok (.iaload, 1) := dk_46 (dk_at dksX7_hungriest_0 17 rfl rfl)
theorem dX7_hungriest_18 : decode cX7_hungriest 18 = .ok (.if_icmp .ge 54, 3) := dk_162 0 54 (dk_at dksX7_hungriest_0 18 rfl rfl)
theorem dX7_hungriest_21 : decode cX7_hungriest 21 = .ok (.aload_n 0, 1) := dk_42 (dk_at dksX7_hungriest_0 21 rfl rfl)
theorem dX7_hungriest_22 : decode cX7_hungriest 22 = .ok (.iload_n 3, 1) := dk_29 (dk_at dksX7_hungriest_0 22 rfl rfl)
theorem dX7_hungriest_23 : decode cX7_hungriest 23 = .ok (.invokevirtual 336, 3) := dk_182 1 80 (dk_at dksX7_hungriest_1 0 rfl rfl)
theorem dX7_hungriest_26 : decode cX7_hungriest 26 = .ok (.iconst (-1), 1) := dk_2 (dk_at dksX7_hungriest_1 3 rfl rfl)
theorem dX7_hungriest_27 : decode cX7_hungriest 27 = .ok (.if_icmp .eq 39, 3) := dk_159 0 39 (dk_at dksX7_hungriest_1 4 rfl rfl)
theorem dX7_hungriest_30 : decode cX7_hungriest 30 = .ok (.aload_n 0, 1) := dk_42 (dk_at dksX7_hungriest_1 7 rfl rfl)
theorem dX7_hungriest_31 : decode cX7_hungriest 31 = .ok (.getfield 55, 3) := dk_180 0 55 (dk_at dksX7_hungriest_1 8 rfl rfl)
theorem dX7_hungriest_34 : decode cX7_hungriest 34 = .ok (.iload_n 3, 1) := dk_29 (dk_at dksX7_hungriest_1 11 rfl rfl)
theorem dX7_hungriest_35 : decode cX7_hungriest 35 = .ok (.iaload, 1) := dk_46 (dk_at dksX7_hungriest_1 12 rfl rfl)
theorem dX7_hungriest_36 : decode cX7_hungriest 36 = .ok (.aload_n 0, 1) := dk_42 (dk_at dksX7_hungriest_1 13 rfl rfl)
theorem dX7_hungriest_37 : decode cX7_hungriest 37 = .ok (.getfield 73, 3) := dk_180 0 73 (dk_at dksX7_hungriest_1 14 rfl rfl)
theorem dX7_hungriest_40 : decode cX7_hungriest 40 = .ok (.iload_n 3, 1) := dk_29 (dk_at dksX7_hungriest_1 17 rfl rfl)
theorem dX7_hungriest_41 : decode cX7_hungriest 41 = .ok (.iaload, 1) := dk_46 (dk_at dksX7_hungriest_1 18 rfl rfl)
theorem dX7_hungriest_42 : decode cX7_hungriest 42 = .ok (.isub, 1) := dk_100 (dk_at dksX7_hungriest_1 19 rfl rfl)
theorem dX7_hungriest_43 : decode cX7_hungriest 43 = .ok (.iload_n 2, 1) := dk_28 (dk_at dksX7_hungriest_1 20 rfl rfl)
theorem dX7_hungriest_44 : decode cX7_hungriest 44 = .ok (.if_icmp .gt 6, 3) := dk_163 0 6 (dk_at dksX7_hungriest_1 21 rfl rfl)
theorem dX7_hungriest_47 : decode cX7_hungriest 47 = .ok (.goto 19, 3) := dk_167 0 19 (dk_at dksX7_hungriest_2 0 rfl rfl)
theorem dX7_hungriest_50 : decode cX7_hungriest 50 = .ok (.iload_n 3, 1) := dk_29 (dk_at dksX7_hungriest_2 3 rfl rfl)
theorem dX7_hungriest_51 : decode cX7_hungriest 51 = .ok (.istore_n 1, 1) := dk_60 (dk_at dksX7_hungriest_2 4 rfl rfl)
theorem dX7_hungriest_52 : decode cX7_hungriest 52 = .ok (.aload_n 0, 1) := dk_42 (dk_at dksX7_hungriest_2 5 rfl rfl)
theorem dX7_hungriest_53 : decode cX7_hungriest 53 = .ok (.getfield 55, 3) := dk_180 0 55 (dk_at dksX7_hungriest_2 6 rfl rfl)
theorem dX7_hungriest_56 : decode cX7_hungriest 56 = .ok (.iload_n 3, 1) := dk_29 (dk_at dksX7_hungriest_2 9 rfl rfl)
theorem dX7_hungriest_57 : decode cX7_hungriest 57 = .ok (.iaload, 1) := dk_46 (dk_at dksX7_hungriest_2 10 rfl rfl)
theorem dX7_hungriest_58 : decode cX7_hungriest 58 = .ok (.aload_n 0, 1) := dk_42 (dk_at dksX7_hungriest_2 11 rfl rfl)
theorem dX7_hungriest_59 : decode cX7_hungriest 59 = .ok (.getfield 73, 3) := dk_180 0 73 (dk_at dksX7_hungriest_2 12 rfl rfl)
theorem dX7_hungriest_62 : decode cX7_hungriest 62 = .ok (.iload_n 3, 1) := dk_29 (dk_at dksX7_hungriest_2 15 rfl rfl)
theorem dX7_hungriest_63 : decode cX7_hungriest 63 = .ok (.iaload, 1) := dk_46 (dk_at dksX7_hungriest_2 16 rfl rfl)
theorem dX7_hungriest_64 : decode cX7_hungriest 64 = .ok (.isub, 1) := dk_100 (dk_at dksX7_hungriest_2 17 rfl rfl)
theorem dX7_hungriest_65 : decode cX7_hungriest 65 = .ok (.istore_n 2, 1) := dk_61 (dk_at dksX7_hungriest_2 18 rfl rfl)
theorem dX7_hungriest_66 : decode cX7_hungriest 66 = .ok (.iinc 3 1, 3) := dk_132 3 1 (dk_at dksX7_hungriest_2 19 rfl rfl)
theorem dX7_hungriest_69 : decode cX7_hungriest 69 = .ok (.goto (-58), 3) := dk_167 255 198 (dk_at dksX7_hungriest_3 0 rfl rfl)
theorem dX7_hungriest_72 : decode cX7_hungriest 72 = .ok (.iload_n 1, 1) := dk_27 (dk_at dksX7_hungriest_3 3 rfl rfl)
theorem dX7_hungriest_73 : decode cX7_hungriest 73 = .ok (.ireturn, 1) := dk_172 (dk_at dksX7_hungriest_3 4 rfl rfl)
abbrev cX7_out : ByteArray := prog_20_method_94_code
def yX7_out : MethodName := ⟨RX7, "out", "(I)I"⟩
def dkwX7_out_6 : List UInt8 := [132, 4, 1, 167, 255, 169, 29, 172]
abbrev dktX7_out_6 : List UInt8 := dkwX7_out_6 ++ []
def dkwX7_out_5 : List UInt8 := [182, 1, 181, 42, 182, 1, 70, 153, 0, 6, 21, 4, 62, 42, 42, 180, 0, 94, 3, 182, 1, 130]
abbrev dktX7_out_5 : List UInt8 := dkwX7_out_5 ++ dktX7_out_6
def dkwX7_out_4 : List UInt8 := [184, 1, 143, 163, 0, 41, 21, 4, 29, 161, 0, 6, 167, 0, 32, 42, 21, 4, 4, 27, 120, 128]
abbrev dktX7_out_4 : List UInt8 := dkwX7_out_4 ++ dktX7_out_5
def dkwX7_out_3 : List UInt8 := [126, 154, 0, 65, 21, 4, 184, 1, 143, 29, 184, 1, 143, 161, 0, 24, 21, 4, 184, 1, 143, 29]
abbrev dktX7_out_3 : List UInt8 := dkwX7_out_3 ++ dktX7_out_4
def dkwX7_out_2 : List UInt8 := [182, 1, 91, 3, 54, 4, 21, 4, 4, 42, 180, 0, 42, 3, 46, 120, 162, 0, 80, 21, 4, 28, 2, 130]
abbrev dktX7_out_2 : List UInt8 := dkwX7_out_2 ++ dktX7_out_3
def dkwX7_out_1 : List UInt8 := [182, 1, 13, 172, 42, 182, 1, 83, 4, 27, 120, 2, 130, 126, 61, 28, 62, 42, 42, 180, 0, 94, 3]
abbrev dktX7_out_1 : List UInt8 := dkwX7_out_1 ++ dktX7_out_2
def dkwX7_out_0 : List UInt8 := [42, 3, 181, 0, 143, 42, 27, 182, 1, 77, 153, 0, 12, 42, 27, 182, 1, 80, 2, 160, 0, 9, 42, 4]
abbrev dktX7_out_0 : List UInt8 := dkwX7_out_0 ++ dktX7_out_1
theorem dksX7_out_0 : cX7_out.data.toList.drop 0 = dktX7_out_0 := by decide +kernel
theorem dksX7_out_1 : cX7_out.data.toList.drop 24 = dktX7_out_1 := dk_seg dksX7_out_0 24 rfl rfl
theorem dksX7_out_2 : cX7_out.data.toList.drop 47 = dktX7_out_2 := dk_seg dksX7_out_1 23 rfl rfl
theorem dksX7_out_3 : cX7_out.data.toList.drop 71 = dktX7_out_3 := dk_seg dksX7_out_2 24 rfl rfl
theorem dksX7_out_4 : cX7_out.data.toList.drop 93 = dktX7_out_4 := dk_seg dksX7_out_3 22 rfl rfl
theorem dksX7_out_5 : cX7_out.data.toList.drop 115 = dktX7_out_5 := dk_seg dksX7_out_4 22 rfl rfl
theorem dksX7_out_6 : cX7_out.data.toList.drop 137 = dktX7_out_6 := dk_seg dksX7_out_5 22 rfl rfl
theorem dX7_out_0 : decode cX7_out 0 = .ok (.aload_n 0, 1) := dk_42 (dk_at dksX7_out_0 0 rfl rfl)
theorem dX7_out_1 : decode cX7_out 1 = .ok (.iconst 0, 1) := dk_3 (dk_at dksX7_out_0 1 rfl rfl)
theorem dX7_out_2 : decode cX7_out 2 = .ok (.putfield 143, 3) := dk_181 0 143 (dk_at dksX7_out_0 2 rfl rfl)
theorem dX7_out_5 : decode cX7_out 5 = .ok (.aload_n 0, 1) := dk_42 (dk_at dksX7_out_0 5 rfl rfl)
theorem dX7_out_6 : decode cX7_out 6 = .ok (.iload_n 1, 1) := dk_27 (dk_at dksX7_out_0 6 rfl rfl)
theorem dX7_out_7 : decode cX7_out 7 = .ok (.invokevirtual 333, 3) := dk_182 1 77 (dk_at dksX7_out_0 7 rfl rfl)
theorem dX7_out_10 : decode cX7_out 10 = .ok (.ifCond .eq 12, 3) := dk_153 0 12 (dk_at dksX7_out_0 10 rfl rfl)
theorem dX7_out_13 : decode cX7_out 13 = .ok (.aload_n 0, 1) := dk_42 (dk_at dksX7_out_0 13 rfl rfl)
theorem dX7_out_14 : decode cX7_out 14 = .ok (.iload_n 1, 1) := dk_27 (dk_at dksX7_out_0 14 rfl rfl)
theorem dX7_out_15 : decode cX7_out 15 = .ok (.invokevirtual 336, 3) := dk_182 1 80 (dk_at dksX7_out_0 15 rfl rfl)
theorem dX7_out_18 : decode cX7_out 18 = .ok (.iconst (-1), 1) := dk_2 (dk_at dksX7_out_0 18 rfl rfl)
theorem dX7_out_19 : decode cX7_out 19 = .ok (.if_icmp .ne 9, 3) := dk_160 0 9 (dk_at dksX7_out_0 19 rfl rfl)
theorem dX7_out_22 : decode cX7_out 22 = .ok (.aload_n 0, 1) := dk_42 (dk_at dksX7_out_0 22 rfl rfl)
theorem dX7_out_23 : decode cX7_out 23 = .ok (.iconst 1, 1) := dk_4 (dk_at dksX7_out_0 23 rfl rfl)
theorem dX7_out_24 : decode cX7_out 24 = .ok (.invokevirtual 269, 3) := dk_182 1 13 (dk_at dksX7_out_1 0 rfl rfl)
theorem dX7_out_27 : decode cX7_out 27 = .ok (.ireturn, 1) := dk_172 (dk_at dksX7_out_1 3 rfl rfl)
theorem dX7_out_28 : decode cX7_out 28 = .ok (.aload_n 0, 1) := dk_42 (dk_at dksX7_out_1 4 rfl rfl)
theorem dX7_out_29 : decode cX7_out 29 = .ok (.invokevirtual 339, 3) := dk_182 1 83 (dk_at dksX7_out_1 5 rfl rfl)
theorem dX7_out_32 : decode cX7_out 32 = .ok (.iconst 1, 1) := dk_4 (dk_at dksX7_out_1 8 rfl rfl)
theorem dX7_out_33 : decode cX7_out 33 = .ok (.iload_n 1, 1) := dk_27 (dk_at dksX7_out_1 9 rfl rfl)
theorem dX7_out_34 : decode cX7_out 34 = .ok (.ishl, 1) := dk_120 (dk_at dksX7_out_1 10 rfl rfl)
theorem dX7_out_35 : decode cX7_out 35 = .ok (.iconst (-1), 1) := dk_2 (dk_at dksX7_out_1 11 rfl rfl)
theorem dX7_out_36 : decode cX7_out 36 = .ok (.ixor, 1) := dk_130 (dk_at dksX7_out_1 12 rfl rfl)
theorem dX7_out_37 : decode cX7_out 37 = .ok (.iand, 1) := dk_126 (dk_at dksX7_out_1 13 rfl rfl)
theorem dX7_out_38 : decode cX7_out 38 = .ok (.istore_n 2, 1) := dk_61 (dk_at dksX7_out_1 14 rfl rfl)
theorem dX7_out_39 : decode cX7_out 39 = .ok (.iload_n 2, 1) := dk_28 (dk_at dksX7_out_1 15 rfl rfl)
theorem dX7_out_40 : decode cX7_out 40 = .ok (.istore_n 3, 1) := dk_62 (dk_at dksX7_out_1 16 rfl rfl)
theorem dX7_out_41 : decode cX7_out 41 = .ok (.aload_n 0, 1) := dk_42 (dk_at dksX7_out_1 17 rfl rfl)
theorem dX7_out_42 : decode cX7_out 42 = .ok (.aload_n 0, 1) := dk_42 (dk_at dksX7_out_1 18 rfl rfl)
theorem dX7_out_43 : decode cX7_out 43 = .ok (.getfield 94, 3) := dk_180 0 94 (dk_at dksX7_out_1 19 rfl rfl)
theorem dX7_out_46 : decode cX7_out 46 = .ok (.iconst 0, 1) := dk_3 (dk_at dksX7_out_1 22 rfl rfl)
theorem dX7_out_47 : decode cX7_out 47 = .ok (.invokevirtual 347, 3) := dk_182 1 91 (dk_at dksX7_out_2 0 rfl rfl)
theorem dX7_out_50 : decode cX7_out 50 = .ok (.iconst 0, 1) := dk_3 (dk_at dksX7_out_2 3 rfl rfl)
theorem dX7_out_51 : decode cX7_out 51 = .ok (.istore 4, 2) := dk_54 4 (dk_at dksX7_out_2 4 rfl rfl)
theorem dX7_out_53 : decode cX7_out 53 = .ok (.iload 4, 2) := dk_21 4 (dk_at dksX7_out_2 6 rfl rfl)
theorem dX7_out_55 : decode cX7_out 55 = .ok (.iconst 1, 1) := dk_4 (dk_at dksX7_out_2 8 rfl rfl)
theorem dX7_out_56 : decode cX7_out 56 = .ok (.aload_n 0, 1) := dk_42 (dk_at dksX7_out_2 9 rfl rfl)
theorem dX7_out_57 : decode cX7_out 57 = .ok (.getfield 42, 3) := dk_180 0 42 (dk_at dksX7_out_2 10 rfl rfl)
theorem dX7_out_60 : decode cX7_out 60 = .ok (.iconst 0, 1) := dk_3 (dk_at dksX7_out_2 13 rfl rfl)
theorem dX7_out_61 : decode cX7_out 61 = .ok (.iaload, 1) := dk_46 (dk_at dksX7_out_2 14 rfl rfl)
theorem dX7_out_62 : decode cX7_out 62 = .ok (.ishl, 1) := dk_120 (dk_at dksX7_out_2 15 rfl rfl)
theorem dX7_out_63 : decode cX7_out 63 = .ok (.if_icmp .ge 80, 3) := dk_162 0 80 (dk_at dksX7_out_2 16 rfl rfl)
theorem dX7_out_66 : decode cX7_out 66 = .ok (.iload 4, 2) := dk_21 4 (dk_at dksX7_out_2 19 rfl rfl)
theorem dX7_out_68 : decode cX7_out 68 = .ok (.iload_n 2, 1) := dk_28 (dk_at dksX7_out_2 21 rfl rfl)
theorem dX7_out_69 : decode cX7_out 69 = .ok (.iconst (-1), 1) := dk_2 (dk_at dksX7_out_2 22 rfl rfl)
theorem dX7_out_70 : decode cX7_out 70 = .ok (.ixor, 1) := dk_130 (dk_at dksX7_out_2 23 rfl rfl)
theorem dX7_out_71 : decode cX7_out 71 = .ok (.iand, 1) := dk_126 (dk_at dksX7_out_3 0 rfl rfl)
theorem dX7_out_72 : decode cX7_out 72 = .ok (.ifCond .ne 65, 3) := dk_154 0 65 (dk_at dksX7_out_3 1 rfl rfl)
theorem dX7_out_75 : decode cX7_out 75 = .ok (.iload 4, 2) := dk_21 4 (dk_at dksX7_out_3 4 rfl rfl)
theorem dX7_out_77 : decode cX7_out 77 = .ok (.invokestatic 399, 3) := dk_184 1 143 (dk_at dksX7_out_3 6 rfl rfl)
theorem dX7_out_80 : decode cX7_out 80 = .ok (.iload_n 3, 1) := dk_29 (dk_at dksX7_out_3 9 rfl rfl)
theorem dX7_out_81 : decode cX7_out 81 = .ok (.invokestatic 399, 3) := dk_184 1 143 (dk_at dksX7_out_3 10 rfl rfl)
theorem dX7_out_84 : decode cX7_out 84 = .ok (.if_icmp .lt 24, 3) := dk_161 0 24 (dk_at dksX7_out_3 13 rfl rfl)
theorem dX7_out_87 : decode cX7_out 87 = .ok (.iload 4, 2) := dk_21 4 (dk_at dksX7_out_3 16 rfl rfl)
theorem dX7_out_89 : decode cX7_out 89 = .ok (.invokestatic 399, 3) := dk_184 1 143 (dk_at dksX7_out_3 18 rfl rfl)
theorem dX7_out_92 : decode cX7_out 92 = .ok (.iload_n 3, 1) := dk_29 (dk_at dksX7_out_3 21 rfl rfl)
theorem dX7_out_93 : decode cX7_out 93 = .ok (.invokestatic 399, 3) := dk_184 1 143 (dk_at dksX7_out_4 0 rfl rfl)
theorem dX7_out_96 : decode cX7_out 96 = .ok (.if_icmp .gt 41, 3) := dk_163 0 41 (dk_at dksX7_out_4 3 rfl rfl)
theorem dX7_out_99 : decode cX7_out 99 = .ok (.iload 4, 2) := dk_21 4 (dk_at dksX7_out_4 6 rfl rfl)
theorem dX7_out_101 : decode cX7_out 101 = .ok (.iload_n 3, 1) := dk_29 (dk_at dksX7_out_4 8 rfl rfl)
theorem dX7_out_102 : decode cX7_out 102 = .ok (.if_icmp .lt 6, 3) := dk_161 0 6 (dk_at dksX7_out_4 9 rfl rfl)
theorem dX7_out_105 : decode cX7_out 105 = .ok (.goto 32, 3) := dk_167 0 32 (dk_at dksX7_out_4 12 rfl rfl)
theorem dX7_out_108 : decode cX7_out 108 = .ok (.aload_n 0, 1) := dk_42 (dk_at dksX7_out_4 15 rfl rfl)
theorem dX7_out_109 : decode cX7_out 109 = .ok (.iload 4, 2) := dk_21 4 (dk_at dksX7_out_4 16 rfl rfl)
theorem dX7_out_111 : decode cX7_out 111 = .ok (.iconst 1, 1) := dk_4 (dk_at dksX7_out_4 18 rfl rfl)
theorem dX7_out_112 : decode cX7_out 112 = .ok (.iload_n 1, 1) := dk_27 (dk_at dksX7_out_4 19 rfl rfl)
theorem dX7_out_113 : decode cX7_out 113 = .ok (.ishl, 1) := dk_120 (dk_at dksX7_out_4 20 rfl rfl)
theorem dX7_out_114 : decode cX7_out 114 = .ok (.ior, 1) := dk_128 (dk_at dksX7_out_4 21 rfl rfl)
theorem dX7_out_115 : decode cX7_out 115 = .ok (.invokevirtual 437, 3) := dk_182 1 181 (dk_at dksX7_out_5 0 rfl rfl)
theorem dX7_out_118 : decode cX7_out 118 = .ok (.aload_n 0, 1) := dk_42 (dk_at dksX7_out_5 3 rfl rfl)
theorem dX7_out_119 : decode cX7_out 119 = .ok (.invokevirtual 326, 3) := dk_182 1 70 (dk_at dksX7_out_5 4 rfl rfl)
theorem dX7_out_122 : decode cX7_out 122 = .ok (.ifCond .eq 6, 3) := dk_153 0 6 (dk_at dksX7_out_5 7 rfl rfl)
theorem dX7_out_125 : decode cX7_out 125 = .ok (.iload 4, 2) := dk_21 4 (dk_at dksX7_out_5 10 rfl rfl)
theorem dX7_out_127 : decode cX7_out 127 = .ok (.istore_n 3, 1) := dk_62 (dk_at dksX7_out_5 12 rfl rfl)
theorem dX7_out_128 : decode cX7_out 128 = .ok (.aload_n 0, 1) := dk_42 (dk_at dksX7_out_5 13 rfl rfl)
theorem dX7_out_129 : decode cX7_out 129 = .ok (.aload_n 0, 1) := dk_42 (dk_at dksX7_out_5 14 rfl rfl)
theorem dX7_out_130 : decode cX7_out 130 = .ok (.getfield 94, 3) := dk_180 0 94 (dk_at dksX7_out_5 15 rfl rfl)
theorem dX7_out_133 : decode cX7_out 133 = .ok (.iconst 0, 1) := dk_3 (dk_at dksX7_out_5 18 rfl rfl)
theorem dX7_out_134 : decode cX7_out 134 = .ok (.invokevirtual 386, 3) := dk_182 1 130 (dk_at dksX7_out_5 19 rfl rfl)
theorem dX7_out_137 : decode cX7_out 137 = .ok (.iinc 4 1, 3) := dk_132 4 1 (dk_at dksX7_out_6 0 rfl rfl)
theorem dX7_out_140 : decode cX7_out 140 = .ok (.goto (-87), 3) := dk_167 255 169 (dk_at dksX7_out_6 3 rfl rfl)
theorem dX7_out_143 : decode cX7_out 143 = .ok (.iload_n 3, 1) := dk_29 (dk_at dksX7_out_6 6 rfl rfl)
theorem dX7_out_144 : decode cX7_out 144 = .ok (.ireturn, 1) := dk_172 (dk_at dksX7_out_6 7 rfl rfl)
abbrev cX7_takeOffAll : ByteArray := prog_20_method_93_code
def yX7_takeOffAll : MethodName := ⟨RX7, "takeOffAll", "(I)V"⟩
def dkwX7_takeOffAll_1 : List UInt8 := [182, 1, 101, 132, 2, 1, 167, 255, 230, 177]
abbrev dktX7_takeOffAll_1 : List UInt8 := dkwX7_takeOffAll_1 ++ []
def dkwX7_takeOffAll_0 : List UInt8 := [3, 61, 28, 42, 180, 0, 42, 3, 46, 162, 0, 22, 27, 28, 184, 1, 139, 153, 0, 8, 42, 28]
abbrev dktX7_takeOffAll_0 : List UInt8 := dkwX7_takeOffAll_0 ++ dktX7_takeOffAll_1
theorem dksX7_takeOffAll_0 : cX7_takeOffAll.data.toList.drop 0 = dktX7_takeOffAll_0 := by decide +kernel
theorem dksX7_takeOffAll_1 : cX7_takeOffAll.data.toList.drop 22 = dktX7_takeOffAll_1 := dk_seg dksX7_takeOffAll_0 22 rfl rfl
theorem dX7_takeOffAll_0 : decode cX7_takeOffAll 0 = .ok (.iconst 0, 1) := dk_3 (dk_at dksX7_takeOffAll_0 0 rfl rfl)
theorem dX7_takeOffAll_1 : decode cX7_takeOffAll 1 = .ok (.istore_n 2, 1) := dk_61 (dk_at dksX7_takeOffAll_0 1 rfl rfl)
theorem dX7_takeOffAll_2 : decode cX7_takeOffAll 2 = .ok (.iload_n 2, 1) := dk_28 (dk_at dksX7_takeOffAll_0 2 rfl rfl)
theorem dX7_takeOffAll_3 : decode cX7_takeOffAll 3 = .ok (.aload_n 0, 1) := dk_42 (dk_at dksX7_takeOffAll_0 3 rfl rfl)
theorem dX7_takeOffAll_4 : decode cX7_takeOffAll 4 = .ok (.getfield 42, 3) := dk_180 0 42 (dk_at dksX7_takeOffAll_0 4 rfl rfl)
theorem dX7_takeOffAll_7 : decode cX7_takeOffAll 7 = .ok (.iconst 0, 1) := dk_3 (dk_at dksX7_takeOffAll_0 7 rfl rfl)
theorem dX7_takeOffAll_8 : decode cX7_takeOffAll 8 = .ok (.iaload, 1) := dk_46 (dk_at dksX7_takeOffAll_0 8 rfl rfl)
theorem dX7_takeOffAll_9 : decode cX7_takeOffAll 9 = .ok (.if_icmp .ge 22, 3) := dk_162 0 22 (dk_at dksX7_takeOffAll_0 9 rfl rfl)
theorem dX7_takeOffAll_12 : decode cX7_takeOffAll 12 = .ok (.iload_n 1, 1) := dk_27 (dk_at dksX7_takeOffAll_0 12 rfl rfl)
theorem dX7_takeOffAll_13 : decode cX7_takeOffAll 13 = .ok (.iload_n 2, 1) := dk_28 (dk_at dksX7_takeOffAll_0 13 rfl rfl)
theorem dX7_takeOffAll_14 : decode cX7_takeOffAll 14 = .ok (.invokestatic 395, 3) := dk_184 1 139 (dk_at dksX7_takeOffAll_0 14 rfl rfl)
theorem dX7_takeOffAll_17 : decode cX7_takeOffAll 17 = .ok (.ifCond .eq 8, 3) := dk_153 0 8 (dk_at dksX7_takeOffAll_0 17 rfl rfl)
theorem dX7_takeOffAll_20 : decode cX7_takeOffAll 20 = .ok (.aload_n 0, 1) := dk_42 (dk_at dksX7_takeOffAll_0 20 rfl rfl)
theorem dX7_takeOffAll_21 : decode cX7_takeOffAll 21 = .ok (.iload_n 2, 1) := dk_28 (dk_at dksX7_takeOffAll_0 21 rfl rfl)
theorem dX7_takeOffAll_22 : decode cX7_takeOffAll 22 = .ok (.invokevirtual 357, 3) := dk_182 1 101 (dk_at dksX7_takeOffAll_1 0 rfl rfl)
theorem dX7_takeOffAll_25 : decode cX7_takeOffAll 25 = .ok (.iinc 2 1, 3) := dk_132 2 1 (dk_at dksX7_takeOffAll_1 3 rfl rfl)
theorem dX7_takeOffAll_28 : decode cX7_takeOffAll 28 = .ok (.goto (-26), 3) := dk_167 255 230 (dk_at dksX7_takeOffAll_1 6 rfl rfl)
theorem dX7_takeOffAll_31 : decode cX7_takeOffAll 31 = .ok (.return_, 1) := dk_177 (dk_at dksX7_takeOffAll_1 9 rfl rfl)
abbrev cX7_relief : ByteArray := prog_20_method_95_code
def yX7_relief : MethodName := ⟨RX7, "relief", "()I"⟩
def dkwX7_relief_3 : List UInt8 := [167, 0, 8, 29, 60, 21, 4, 61, 132, 3, 1, 167, 255, 197, 27, 172]
abbrev dktX7_relief_3 : List UInt8 := dkwX7_relief_3 ++ []
def dkwX7_relief_2 : List UInt8 := [182, 1, 101, 42, 182, 1, 133, 54, 4, 42, 42, 180, 0, 94, 3, 182, 1, 130, 21, 4, 28, 163, 0, 6]
abbrev dktX7_relief_2 : List UInt8 := dkwX7_relief_2 ++ dktX7_relief_3
def dkwX7_relief_1 : List UInt8 := [180, 0, 42, 3, 46, 162, 0, 55, 42, 29, 182, 1, 80, 2, 160, 0, 6, 167, 0, 37, 42, 29]
abbrev dktX7_relief_1 : List UInt8 := dkwX7_relief_1 ++ dktX7_relief_2
def dkwX7_relief_0 : List UInt8 := [42, 3, 181, 0, 143, 2, 60, 2, 61, 42, 42, 180, 0, 94, 3, 182, 1, 91, 3, 62, 29, 42]
abbrev dktX7_relief_0 : List UInt8 := dkwX7_relief_0 ++ dktX7_relief_1
theorem dksX7_relief_0 : cX7_relief.data.toList.drop 0 = dktX7_relief_0 := by decide +kernel
theorem dksX7_relief_1 : cX7_relief.data.toList.drop 22 = dktX7_relief_1 := dk_seg dksX7_relief_0 22 rfl rfl
theorem dksX7_relief_2 : cX7_relief.data.toList.drop 44 = dktX7_relief_2 := dk_seg dksX7_relief_1 22 rfl rfl
theorem dksX7_relief_3 : cX7_relief.data.toList.drop 68 = dktX7_relief_3 := dk_seg dksX7_relief_2 24 rfl rfl
theorem dX7_relief_0 : decode cX7_relief 0 = .ok (.aload_n 0, 1) := dk_42 (dk_at dksX7_relief_0 0 rfl rfl)
theorem dX7_relief_1 : decode cX7_relief 1 = .ok (.iconst 0, 1) := dk_3 (dk_at dksX7_relief_0 1 rfl rfl)
theorem dX7_relief_2 : decode cX7_relief 2 = .ok (.putfield 143, 3) := dk_181 0 143 (dk_at dksX7_relief_0 2 rfl rfl)
theorem dX7_relief_5 : decode cX7_relief 5 = .ok (.iconst (-1), 1) := dk_2 (dk_at dksX7_relief_0 5 rfl rfl)
theorem dX7_relief_6 : decode cX7_relief 6 = .ok (.istore_n 1, 1) := dk_60 (dk_at dksX7_relief_0 6 rfl rfl)
theorem dX7_relief_7 : decode cX7_relief 7 = .ok (.iconst (-1), 1) := dk_2 (dk_at dksX7_relief_0 7 rfl rfl)
theorem dX7_relief_8 : decode cX7_relief 8 = .ok (.istore_n 2, 1) := dk_61 (dk_at dksX7_relief_0 8 rfl rfl)
theorem dX7_relief_9 : decode cX7_relief 9 = .ok (.aload_n 0, 1) := dk_42 (dk_at dksX7_relief_0 9 rfl rfl)
theorem dX7_relief_10 : decode cX7_relief 10 = .ok (.aload_n 0, 1) := dk_42 (dk_at dksX7_relief_0 10 rfl rfl)
theorem dX7_relief_11 : decode cX7_relief 11 = .ok (.getfield 94, 3) := dk_180 0 94 (dk_at dksX7_relief_0 11 rfl rfl)
theorem dX7_relief_14 : decode cX7_relief 14 = .ok (.iconst 0, 1) := dk_3 (dk_at dksX7_relief_0 14 rfl rfl)
theorem dX7_relief_15 : decode cX7_relief 15 = .ok (.invokevirtual 347, 3) := dk_182 1 91 (dk_at dksX7_relief_0 15 rfl rfl)
theorem dX7_relief_18 : decode cX7_relief 18 = .ok (.iconst 0, 1) := dk_3 (dk_at dksX7_relief_0 18 rfl rfl)
theorem dX7_relief_19 : decode cX7_relief 19 = .ok (.istore_n 3, 1) := dk_62 (dk_at dksX7_relief_0 19 rfl rfl)
theorem dX7_relief_20 : decode cX7_relief 20 = .ok (.iload_n 3, 1) := dk_29 (dk_at dksX7_relief_0 20 rfl rfl)
theorem dX7_relief_21 : decode cX7_relief 21 = .ok (.aload_n 0, 1) := dk_42 (dk_at dksX7_relief_0 21 rfl rfl)
theorem dX7_relief_22 : decode cX7_relief 22 = .ok (.getfield 42, 3) := dk_180 0 42 (dk_at dksX7_relief_1 0 rfl rfl)
theorem dX7_relief_25 : decode cX7_relief 25 = .ok (.iconst 0, 1) := dk_3 (dk_at dksX7_relief_1 3 rfl rfl)
theorem dX7_relief_26 : decode cX7_relief 26 = .ok (.iaload, 1) := dk_46 (dk_at dksX7_relief_1 4 rfl rfl)
theorem dX7_relief_27 : decode cX7_relief 27 = .ok (.if_icmp .ge 55, 3) := dk_162 0 55 (dk_at dksX7_relief_1 5 rfl rfl)
theorem dX7_relief_30 : decode cX7_relief 30 = .ok (.aload_n 0, 1) := dk_42 (dk_at dksX7_relief_1 8 rfl rfl)
theorem dX7_relief_31 : decode cX7_relief 31 = .ok (.iload_n 3, 1) := dk_29 (dk_at dksX7_relief_1 9 rfl rfl)
theorem dX7_relief_32 : decode cX7_relief 32 = .ok (.invokevirtual 336, 3) := dk_182 1 80 (dk_at dksX7_relief_1 10 rfl rfl)
theorem dX7_relief_35 : decode cX7_relief 35 = .ok (.iconst (-1), 1) := dk_2 (dk_at dksX7_relief_1 13 rfl rfl)
theorem dX7_relief_36 : decode cX7_relief 36 = .ok (.if_icmp .ne 6, 3) := dk_160 0 6 (dk_at dksX7_relief_1 14 rfl rfl)
theorem dX7_relief_39 : decode cX7_relief 39 = .ok (.goto 37, 3) := dk_167 0 37 (dk_at dksX7_relief_1 17 rfl rfl)
theorem dX7_relief_42 : decode cX7_relief 42 = .ok (.aload_n 0, 1) := dk_42 (dk_at dksX7_relief_1 20 rfl rfl)
theorem dX7_relief_43 : decode cX7_relief 43 = .ok (.iload_n 3, 1) := dk_29 (dk_at dksX7_relief_1 21 rfl rfl)
theorem dX7_relief_44 : decode cX7_relief 44 = .ok (.invokevirtual 357, 3) := dk_182 1 101 (dk_at dksX7_relief_2 0 rfl rfl)
theorem dX7_relief_47 : decode cX7_relief 47 = .ok (.aload_n 0, 1) := dk_42 (dk_at dksX7_relief_2 3 rfl rfl)
theorem dX7_relief_48 : decode cX7_relief 48 = .ok (.invokevirtual 389, 3) := dk_182 1 133 (dk_at dksX7_relief_2 4 rfl rfl)
theorem dX7_relief_51 : decode cX7_relief 51 = .ok (.istore 4, 2) := dk_54 4 (dk_at dksX7_relief_2 7 rfl rfl)
theorem dX7_relief_53 : decode cX7_relief 53 = .ok (.aload_n 0, 1) := dk_42 (dk_at dksX7_relief_2 9 rfl rfl)
theorem dX7_relief_54 : decode cX7_relief 54 = .ok (.aload_n 0, 1) := dk_42 (dk_at dksX7_relief_2 10 rfl rfl)
theorem dX7_relief_55 : decode cX7_relief 55 = .ok (.getfield 94, 3) := dk_180 0 94 (dk_at dksX7_relief_2 11 rfl rfl)
theorem dX7_relief_58 : decode cX7_relief 58 = .ok (.iconst 0, 1) := dk_3 (dk_at dksX7_relief_2 14 rfl rfl)
theorem dX7_relief_59 : decode cX7_relief 59 = .ok (.invokevirtual 386, 3) := dk_182 1 130 (dk_at dksX7_relief_2 15 rfl rfl)
theorem dX7_relief_62 : decode cX7_relief 62 = .ok (.iload 4, 2) := dk_21 4 (dk_at dksX7_relief_2 18 rfl rfl)
theorem dX7_relief_64 : decode cX7_relief 64 = .ok (.iload_n 2, 1) := dk_28 (dk_at dksX7_relief_2 20 rfl rfl)
theorem dX7_relief_65 : decode cX7_relief 65 = .ok (.if_icmp .gt 6, 3) := dk_163 0 6 (dk_at dksX7_relief_2 21 rfl rfl)
theorem dX7_relief_68 : decode cX7_relief 68 = .ok (.goto 8, 3) := dk_167 0 8 (dk_at dksX7_relief_3 0 rfl rfl)
theorem dX7_relief_71 : decode cX7_relief 71 = .ok (.iload_n 3, 1) := dk_29 (dk_at dksX7_relief_3 3 rfl rfl)
theorem dX7_relief_72 : decode cX7_relief 72 = .ok (.istore_n 1, 1) := dk_60 (dk_at dksX7_relief_3 4 rfl rfl)
theorem dX7_relief_73 : decode cX7_relief 73 = .ok (.iload 4, 2) := dk_21 4 (dk_at dksX7_relief_3 5 rfl rfl)
theorem dX7_relief_75 : decode cX7_relief 75 = .ok (.istore_n 2, 1) := dk_61 (dk_at dksX7_relief_3 7 rfl rfl)
theorem dX7_relief_76 : decode cX7_relief 76 = .ok (.iinc 3 1, 3) := dk_132 3 1 (dk_at dksX7_relief_3 8 rfl rfl)
theorem dX7_relief_79 : decode cX7_relief 79 = .ok (.goto (-59), 3) := dk_167 255 197 (dk_at dksX7_relief_3 11 rfl rfl)
theorem dX7_relief_82 : decode cX7_relief 82 = .ok (.iload_n 1, 1) := dk_27 (dk_at dksX7_relief_3 14 rfl rfl)
theorem dX7_relief_83 : decode cX7_relief 83 = .ok (.ireturn, 1) := dk_172 (dk_at dksX7_relief_3 15 rfl rfl)
abbrev cX7_oneWedge : ByteArray := prog_20_method_96_code
def yX7_oneWedge : MethodName := ⟨RX7, "oneWedge", "()I"⟩
def dkwX7_oneWedge_4 : List UInt8 := [60, 132, 5, 1, 167, 255, 208, 42, 180, 0, 76, 29, 21, 4, 79, 132, 2, 1, 167, 255, 162, 27, 172]
abbrev dktX7_oneWedge_4 : List UInt8 := dkwX7_oneWedge_4 ++ []
def dkwX7_oneWedge_3 : List UInt8 := [21, 5, 21, 4, 159, 0, 21, 42, 182, 1, 70, 153, 0, 14, 16, 100, 29, 104, 21, 5, 96, 16, 50, 96]
abbrev dktX7_oneWedge_3 : List UInt8 := dkwX7_oneWedge_3 ++ dktX7_oneWedge_4
def dkwX7_oneWedge_2 : List UInt8 := [16, 247, 54, 5, 21, 5, 16, 9, 163, 0, 47, 27, 2, 160, 0, 42, 42, 180, 0, 76, 29, 21, 5, 79]
abbrev dktX7_oneWedge_2 : List UInt8 := dkwX7_oneWedge_2 ++ dktX7_oneWedge_3
def dkwX7_oneWedge_1 : List UInt8 := [162, 0, 92, 27, 2, 160, 0, 87, 42, 180, 0, 70, 28, 46, 62, 42, 180, 0, 76, 29, 46, 54, 4]
abbrev dktX7_oneWedge_1 : List UInt8 := dkwX7_oneWedge_1 ++ dktX7_oneWedge_2
def dkwX7_oneWedge_0 : List UInt8 := [42, 3, 181, 0, 143, 42, 182, 1, 70, 153, 0, 5, 2, 172, 2, 60, 3, 61, 28, 42, 180, 0, 150]
abbrev dktX7_oneWedge_0 : List UInt8 := dkwX7_oneWedge_0 ++ dktX7_oneWedge_1
theorem dksX7_oneWedge_0 : cX7_oneWedge.data.toList.drop 0 = dktX7_oneWedge_0 := by decide +kernel
theorem dksX7_oneWedge_1 : cX7_oneWedge.data.toList.drop 23 = dktX7_oneWedge_1 := dk_seg dksX7_oneWedge_0 23 rfl rfl
theorem dksX7_oneWedge_2 : cX7_oneWedge.data.toList.drop 46 = dktX7_oneWedge_2 := dk_seg dksX7_oneWedge_1 23 rfl rfl
theorem dksX7_oneWedge_3 : cX7_oneWedge.data.toList.drop 70 = dktX7_oneWedge_3 := dk_seg dksX7_oneWedge_2 24 rfl rfl
theorem dksX7_oneWedge_4 : cX7_oneWedge.data.toList.drop 94 = dktX7_oneWedge_4 := dk_seg dksX7_oneWedge_3 24 rfl rfl
theorem dX7_oneWedge_0 : decode cX7_oneWedge 0 = .ok (.aload_n 0, 1) := dk_42 (dk_at dksX7_oneWedge_0 0 rfl rfl)
theorem dX7_oneWedge_1 : decode cX7_oneWedge 1 = .ok (.iconst 0, 1) := dk_3 (dk_at dksX7_oneWedge_0 1 rfl rfl)
theorem dX7_oneWedge_2 : decode cX7_oneWedge 2 = .ok (.putfield 143, 3) := dk_181 0 143 (dk_at dksX7_oneWedge_0 2 rfl rfl)
theorem dX7_oneWedge_5 : decode cX7_oneWedge 5 = .ok (.aload_n 0, 1) := dk_42 (dk_at dksX7_oneWedge_0 5 rfl rfl)
theorem dX7_oneWedge_6 : decode cX7_oneWedge 6 = .ok (.invokevirtual 326, 3) := dk_182 1 70 (dk_at dksX7_oneWedge_0 6 rfl rfl)
theorem dX7_oneWedge_9 : decode cX7_oneWedge 9 = .ok (.ifCond .eq 5, 3) := dk_153 0 5 (dk_at dksX7_oneWedge_0 9 rfl rfl)
theorem dX7_oneWedge_12 : decode cX7_oneWedge 12 = .ok (.iconst (-1), 1) := dk_2 (dk_at dksX7_oneWedge_0 12 rfl rfl)
theorem dX7_oneWedge_13 : decode cX7_oneWedge 13 = .ok (.ireturn, 1) := dk_172 (dk_at dksX7_oneWedge_0 13 rfl rfl)
theorem dX7_oneWedge_14 : decode cX7_oneWedge 14 = .ok (.iconst (-1), 1) := dk_2 (dk_at dksX7_oneWedge_0 14 rfl rfl)
theorem dX7_oneWedge_15 : decode cX7_oneWedge 15 = .ok (.istore_n 1, 1) := dk_60 (dk_at dksX7_oneWedge_0 15 rfl rfl)
theorem dX7_oneWedge_16 : decode cX7_oneWedge 16 = .ok (.iconst 0, 1) := dk_3 (dk_at dksX7_oneWedge_0 16 rfl rfl)
theorem dX7_oneWedge_17 : decode cX7_oneWedge 17 = .ok (.istore_n 2, 1) := dk_61 (dk_at dksX7_oneWedge_0 17 rfl rfl)
theorem dX7_oneWedge_18 : decode cX7_oneWedge 18 = .ok (.iload_n 2, 1) := dk_28 (dk_at dksX7_oneWedge_0 18 rfl rfl)
theorem dX7_oneWedge_19 : decode cX7_oneWedge 19 = .ok (.aload_n 0, 1) := dk_42 (dk_at dksX7_oneWedge_0 19 rfl rfl)
theorem dX7_oneWedge_20 : decode cX7_oneWedge 20 = .ok (.getfield 150, 3) := dk_180 0 150 (dk_at dksX7_oneWedge_0 20 rfl rfl)
theorem dX7_oneWedge_23 : decode cX7_oneWedge 23 = .ok (.if_icmp .ge 92, 3) := dk_162 0 92 (dk_at dksX7_oneWedge_1 0 rfl rfl)
theorem dX7_oneWedge_26 : decode cX7_oneWedge 26 = .ok (.iload_n 1, 1) := dk_27 (dk_at dksX7_oneWedge_1 3 rfl rfl)
theorem dX7_oneWedge_27 : decode cX7_oneWedge 27 = .ok (.iconst (-1), 1) := dk_2 (dk_at dksX7_oneWedge_1 4 rfl rfl)
theorem dX7_oneWedge_28 : decode cX7_oneWedge 28 = .ok (.if_icmp .ne 87, 3) := dk_160 0 87 (dk_at dksX7_oneWedge_1 5 rfl rfl)
theorem dX7_oneWedge_31 : decode cX7_oneWedge 31 = .ok (.aload_n 0, 1) := dk_42 (dk_at dksX7_oneWedge_1 8 rfl rfl)
theorem dX7_oneWedge_32 : decode cX7_oneWedge 32 = .ok (.getfield 70, 3) := dk_180 0 70 (dk_at dksX7_oneWedge_1 9 rfl rfl)
theorem dX7_oneWedge_35 : decode cX7_oneWedge 35 = .ok (.iload_n 2, 1) := dk_28 (dk_at dksX7_oneWedge_1 12 rfl rfl)
theorem dX7_oneWedge_36 : decode cX7_oneWedge 36 = .ok (.iaload, 1) := dk_46 (dk_at dksX7_oneWedge_1 13 rfl rfl)
theorem dX7_oneWedge_37 : decode cX7_oneWedge 37 = .ok (.istore_n 3, 1) := dk_62 (dk_at dksX7_oneWedge_1 14 rfl rfl)
theorem dX7_oneWedge_38 : decode cX7_oneWedge 38 = .ok (.aload_n 0, 1) := dk_42 (dk_at dksX7_oneWedge_1 15 rfl rfl)
theorem dX7_oneWedge_39 : decode cX7_oneWedge 39 = .ok (.getfield 76, 3) := dk_180 0 76 (dk_at dksX7_oneWedge_1 16 rfl rfl)
theorem dX7_oneWedge_42 : decode cX7_oneWedge 42 = .ok (.iload_n 3, 1) := dk_29 (dk_at dksX7_oneWedge_1 19 rfl rfl)
theorem dX7_oneWedge_43 : decode cX7_oneWedge 43 = .ok (.iaload, 1) := dk_46 (dk_at dksX7_oneWedge_1 20 rfl rfl)
theorem dX7_oneWedge_44 : decode cX7_oneWedge 44 = .ok (.istore 4, 2) := dk_54 4 (dk_at dksX7_oneWedge_1 21 rfl rfl)
theorem dX7_oneWedge_46 : decode cX7_oneWedge 46 = .ok (.bipush (-9), 2) := dk_16 247 (dk_at dksX7_oneWedge_2 0 rfl rfl)
theorem dX7_oneWedge_48 : decode cX7_oneWedge 48 = .ok (.istore 5, 2) := dk_54 5 (dk_at dksX7_oneWedge_2 2 rfl rfl)
theorem dX7_oneWedge_50 : decode cX7_oneWedge 50 = .ok (.iload 5, 2) := dk_21 5 (dk_at dksX7_oneWedge_2 4 rfl rfl)
theorem dX7_oneWedge_52 : decode cX7_oneWedge 52 = .ok (.bipush 9, 2) := dk_16 9 (dk_at dksX7_oneWedge_2 6 rfl rfl)
theorem dX7_oneWedge_54 : decode cX7_oneWedge 54 = .ok (.if_icmp .gt 47, 3) := dk_163 0 47 (dk_at dksX7_oneWedge_2 8 rfl rfl)
theorem dX7_oneWedge_57 : decode cX7_oneWedge 57 = .ok (.iload_n 1, 1) := dk_27 (dk_at dksX7_oneWedge_2 11 rfl rfl)
theorem dX7_oneWedge_58 : decode cX7_oneWedge 58 = .ok (.iconst (-1), 1) := dk_2 (dk_at dksX7_oneWedge_2 12 rfl rfl)
theorem dX7_oneWedge_59 : decode cX7_oneWedge 59 = .ok (.if_icmp .ne 42, 3) := dk_160 0 42 (dk_at dksX7_oneWedge_2 13 rfl rfl)
theorem dX7_oneWedge_62 : decode cX7_oneWedge 62 = .ok (.aload_n 0, 1) := dk_42 (dk_at dksX7_oneWedge_2 16 rfl rfl)
theorem dX7_oneWedge_63 : decode cX7_oneWedge 63 = .ok (.getfield 76, 3) := dk_180 0 76 (dk_at dksX7_oneWedge_2 17 rfl rfl)
theorem dX7_oneWedge_66 : decode cX7_oneWedge 66 = .ok (.iload_n 3, 1) := dk_29 (dk_at dksX7_oneWedge_2 20 rfl rfl)
theorem dX7_oneWedge_67 : decode cX7_oneWedge 67 = .ok (.iload 5, 2) := dk_21 5 (dk_at dksX7_oneWedge_2 21 rfl rfl)
theorem dX7_oneWedge_69 : decode cX7_oneWedge 69 = .ok (.iastore, 1) := dk_79 (dk_at dksX7_oneWedge_2 23 rfl rfl)
theorem dX7_oneWedge_70 : decode cX7_oneWedge 70 = .ok (.iload 5, 2) := dk_21 5 (dk_at dksX7_oneWedge_3 0 rfl rfl)
theorem dX7_oneWedge_72 : decode cX7_oneWedge 72 = .ok (.iload 4, 2) := dk_21 4 (dk_at dksX7_oneWedge_3 2 rfl rfl)
theorem dX7_oneWedge_74 : decode cX7_oneWedge 74 = .ok (.if_icmp .eq 21, 3) := dk_159 0 21 (dk_at dksX7_oneWedge_3 4 rfl rfl)
theorem dX7_oneWedge_77 : decode cX7_oneWedge 77 = .ok (.aload_n 0, 1) := dk_42 (dk_at dksX7_oneWedge_3 7 rfl rfl)
theorem dX7_oneWedge_78 : decode cX7_oneWedge 78 = .ok (.invokevirtual 326, 3) := dk_182 1 70 (dk_at dksX7_oneWedge_3 8 rfl rfl)
theorem dX7_oneWedge_81 : decode cX7_oneWedge 81 = .ok (.ifCond .eq 14, 3) := dk_153 0 14 (dk_at dksX7_oneWedge_3 11 rfl rfl)
theorem dX7_oneWedge_84 : decode cX7_oneWedge 84 = .ok (.bipush 100, 2) := dk_16 100 (dk_at dksX7_oneWedge_3 14 rfl rfl)
theorem dX7_oneWedge_86 : decode cX7_oneWedge 86 = .ok (.iload_n 3, 1) := dk_29 (dk_at dksX7_oneWedge_3 16 rfl rfl)
theorem dX7_oneWedge_87 : decode cX7_oneWedge 87 = .ok (.imul, 1) := dk_104 (dk_at dksX7_oneWedge_3 17 rfl rfl)
theorem dX7_oneWedge_88 : decode cX7_oneWedge 88 = .ok (.iload 5, 2) := dk_21 5 (dk_at dksX7_oneWedge_3 18 rfl rfl)
theorem dX7_oneWedge_90 : decode cX7_oneWedge 90 = .ok (.iadd, 1) := dk_96 (dk_at dksX7_oneWedge_3 20 rfl rfl)
theorem dX7_oneWedge_91 : decode cX7_oneWedge 91 = .ok (.bipush 50, 2) := dk_16 50 (dk_at dksX7_oneWedge_3 21 rfl rfl)
theorem dX7_oneWedge_93 : decode cX7_oneWedge 93 = .ok (.iadd, 1) := dk_96 (dk_at dksX7_oneWedge_3 23 rfl rfl)
theorem dX7_oneWedge_94 : decode cX7_oneWedge 94 = .ok (.istore_n 1, 1) := dk_60 (dk_at dksX7_oneWedge_4 0 rfl rfl)
theorem dX7_oneWedge_95 : decode cX7_oneWedge 95 = .ok (.iinc 5 1, 3) := dk_132 5 1 (dk_at dksX7_oneWedge_4 1 rfl rfl)
theorem dX7_oneWedge_98 : decode cX7_oneWedge 98 = .ok (.goto (-48), 3) := dk_167 255 208 (dk_at dksX7_oneWedge_4 4 rfl rfl)
theorem dX7_oneWedge_101 : decode cX7_oneWedge 101 = .ok (.aload_n 0, 1) := dk_42 (dk_at dksX7_oneWedge_4 7 rfl rfl)
theorem dX7_oneWedge_102 : decode cX7_oneWedge 102 = .ok (.getfield 76, 3) := dk_180 0 76 (dk_at dksX7_oneWedge_4 8 rfl rfl)
theorem dX7_oneWedge_105 : decode cX7_oneWedge 105 = .ok (.iload_n 3, 1) := dk_29 (dk_at dksX7_oneWedge_4 11 rfl rfl)
theorem dX7_oneWedge_106 : decode cX7_oneWedge 106 = .ok (.iload 4, 2) := dk_21 4 (dk_at dksX7_oneWedge_4 12 rfl rfl)
theorem dX7_oneWedge_108 : decode cX7_oneWedge 108 = .ok (.iastore, 1) := dk_79 (dk_at dksX7_oneWedge_4 14 rfl rfl)
theorem dX7_oneWedge_109 : decode cX7_oneWedge 109 = .ok (.iinc 2 1, 3) := dk_132 2 1 (dk_at dksX7_oneWedge_4 15 rfl rfl)
theorem dX7_oneWedge_112 : decode cX7_oneWedge 112 = .ok (.goto (-94), 3) := dk_167 255 162 (dk_at dksX7_oneWedge_4 18 rfl rfl)
theorem dX7_oneWedge_115 : decode cX7_oneWedge 115 = .ok (.iload_n 1, 1) := dk_27 (dk_at dksX7_oneWedge_4 21 rfl rfl)
theorem dX7_oneWedge_116 : decode cX7_oneWedge 116 = .ok (.ireturn, 1) := dk_172 (dk_at dksX7_oneWedge_4 22 rfl rfl)
abbrev cX7_swap : ByteArray := prog_20_method_97_code
def yX7_swap : MethodName := ⟨RX7, "swap", "()I"⟩
def dkwX7_swap_3 : List UInt8 := [96, 61, 21, 5, 60, 132, 4, 1, 167, 255, 204, 132, 3, 1, 167, 255, 185, 28, 172]
abbrev dktX7_swap_3 : List UInt8 := dkwX7_swap_3 ++ []
def dkwX7_swap_2 : List UInt8 := [54, 5, 42, 29, 21, 4, 182, 1, 107, 21, 5, 27, 163, 0, 6, 167, 0, 14, 16, 10, 29, 104, 21, 4]
abbrev dktX7_swap_2 : List UInt8 := dkwX7_swap_2 ++ dktX7_swap_3
def dkwX7_swap_1 : List UInt8 := [96, 54, 4, 21, 4, 42, 180, 0, 150, 162, 0, 49, 42, 29, 21, 4, 182, 1, 107, 42, 182, 1, 133]
abbrev dktX7_swap_1 : List UInt8 := dkwX7_swap_1 ++ dktX7_swap_2
def dkwX7_swap_0 : List UInt8 := [42, 3, 181, 0, 143, 42, 182, 1, 133, 60, 2, 61, 3, 62, 29, 42, 180, 0, 150, 162, 0, 69, 29, 4]
abbrev dktX7_swap_0 : List UInt8 := dkwX7_swap_0 ++ dktX7_swap_1
theorem dksX7_swap_0 : cX7_swap.data.toList.drop 0 = dktX7_swap_0 := by decide +kernel
theorem dksX7_swap_1 : cX7_swap.data.toList.drop 24 = dktX7_swap_1 := dk_seg dksX7_swap_0 24 rfl rfl
theorem dksX7_swap_2 : cX7_swap.data.toList.drop 47 = dktX7_swap_2 := dk_seg dksX7_swap_1 23 rfl rfl
theorem dksX7_swap_3 : cX7_swap.data.toList.drop 71 = dktX7_swap_3 := dk_seg dksX7_swap_2 24 rfl rfl
theorem dX7_swap_0 : decode cX7_swap 0 = .ok (.aload_n 0, 1) := dk_42 (dk_at dksX7_swap_0 0 rfl rfl)
theorem dX7_swap_1 : decode cX7_swap 1 = .ok (.iconst 0, 1) := dk_3 (dk_at dksX7_swap_0 1 rfl rfl)
theorem dX7_swap_2 : decode cX7_swap 2 = .ok (.putfield 143, 3) := dk_181 0 143 (dk_at dksX7_swap_0 2 rfl rfl)
theorem dX7_swap_5 : decode cX7_swap 5 = .ok (.aload_n 0, 1) := dk_42 (dk_at dksX7_swap_0 5 rfl rfl)
theorem dX7_swap_6 : decode cX7_swap 6 = .ok (.invokevirtual 389, 3) := dk_182 1 133 (dk_at dksX7_swap_0 6 rfl rfl)
theorem dX7_swap_9 : decode cX7_swap 9 = .ok (.istore_n 1, 1) := dk_60 (dk_at dksX7_swap_0 9 rfl rfl)
theorem dX7_swap_10 : decode cX7_swap 10 = .ok (.iconst (-1), 1) := dk_2 (dk_at dksX7_swap_0 10 rfl rfl)
theorem dX7_swap_11 : decode cX7_swap 11 = .ok (.istore_n 2, 1) := dk_61 (dk_at dksX7_swap_0 11 rfl rfl)
theorem dX7_swap_12 : decode cX7_swap 12 = .ok (.iconst 0, 1) := dk_3 (dk_at dksX7_swap_0 12 rfl rfl)
theorem dX7_swap_13 : decode cX7_swap 13 = .ok (.istore_n 3, 1) := dk_62 (dk_at dksX7_swap_0 13 rfl rfl)
theorem dX7_swap_14 : decode cX7_swap 14 = .ok (.iload_n 3, 1) := dk_29 (dk_at dksX7_swap_0 14 rfl rfl)
theorem dX7_swap_15 : decode cX7_swap 15 = .ok (.aload_n 0, 1) := dk_42 (dk_at dksX7_swap_0 15 rfl rfl)
theorem dX7_swap_16 : decode cX7_swap 16 = .ok (.getfield 150, 3) := dk_180 0 150 (dk_at dksX7_swap_0 16 rfl rfl)
theorem dX7_swap_19 : decode cX7_swap 19 = .ok (.if_icmp .ge 69, 3) := dk_162 0 69 (dk_at dksX7_swap_0 19 rfl rfl)
theorem dX7_swap_22 : decode cX7_swap 22 = .ok (.iload_n 3, 1) := dk_29 (dk_at dksX7_swap_0 22 rfl rfl)
theorem dX7_swap_23 : decode cX7_swap 23 = .ok (.iconst 1, 1) := dk_4 (dk_at dksX7_swap_0 23 rfl rfl)
theorem dX7_swap_24 : decode cX7_swap 24 = .ok (.iadd, 1) := dk_96 (dk_at dksX7_swap_1 0 rfl rfl)
theorem dX7_swap_25 : decode cX7_swap 25 = .ok (.istore 4, 2) := dk_54 4 (dk_at dksX7_swap_1 1 rfl rfl)
theorem dX7_swap_27 : decode cX7_swap 27 = .ok (.iload 4, 2) := dk_21 4 (dk_at dksX7_swap_1 3 rfl rfl)
theorem dX7_swap_29 : decode cX7_swap 29 = .ok (.aload_n 0, 1) := dk_42 (dk_at dksX7_swap_1 5 rfl rfl)
theorem dX7_swap_30 : decode cX7_swap 30 = .ok (.getfield 150, 3) := dk_180 0 150 (dk_at dksX7_swap_1 6 rfl rfl)
theorem dX7_swap_33 : decode cX7_swap 33 = .ok (.if_icmp .ge 49, 3) := dk_162 0 49 (dk_at dksX7_swap_1 9 rfl rfl)
theorem dX7_swap_36 : decode cX7_swap 36 = .ok (.aload_n 0, 1) := dk_42 (dk_at dksX7_swap_1 12 rfl rfl)
theorem dX7_swap_37 : decode cX7_swap 37 = .ok (.iload_n 3, 1) := dk_29 (dk_at dksX7_swap_1 13 rfl rfl)
theorem dX7_swap_38 : decode cX7_swap 38 = .ok (.iload 4, 2) := dk_21 4 (dk_at dksX7_swap_1 14 rfl rfl)
theorem dX7_swap_40 : decode cX7_swap 40 = .ok (.invokevirtual 363, 3) := dk_182 1 107 (dk_at dksX7_swap_1 16 rfl rfl)
theorem dX7_swap_43 : decode cX7_swap 43 = .ok (.aload_n 0, 1) := dk_42 (dk_at dksX7_swap_1 19 rfl rfl)
theorem dX7_swap_44 : decode cX7_swap 44 = .ok (.invokevirtual 389, 3) := dk_182 1 133 (dk_at dksX7_swap_1 20 rfl rfl)
theorem dX7_swap_47 : decode cX7_swap 47 = .ok (.istore 5, 2) := dk_54 5 (dk_at dksX7_swap_2 0 rfl rfl)
theorem dX7_swap_49 : decode cX7_swap 49 = .ok (.aload_n 0, 1) := dk_42 (dk_at dksX7_swap_2 2 rfl rfl)
theorem dX7_swap_50 : decode cX7_swap 50 = .ok (.iload_n 3, 1) := dk_29 (dk_at dksX7_swap_2 3 rfl rfl)
theorem dX7_swap_51 : decode cX7_swap 51 = .ok (.iload 4, 2) := dk_21 4 (dk_at dksX7_swap_2 4 rfl rfl)
theorem dX7_swap_53 : decode cX7_swap 53 = .ok (.invokevirtual 363, 3) := dk_182 1 107 (dk_at dksX7_swap_2 6 rfl rfl)
theorem dX7_swap_56 : decode cX7_swap 56 = .ok (.iload 5, 2) := dk_21 5 (dk_at dksX7_swap_2 9 rfl rfl)
theorem dX7_swap_58 : decode cX7_swap 58 = .ok (.iload_n 1, 1) := dk_27 (dk_at dksX7_swap_2 11 rfl rfl)
theorem dX7_swap_59 : decode cX7_swap 59 = .ok (.if_icmp .gt 6, 3) := dk_163 0 6 (dk_at dksX7_swap_2 12 rfl rfl)
theorem dX7_swap_62 : decode cX7_swap 62 = .ok (.goto 14, 3) := dk_167 0 14 (dk_at dksX7_swap_2 15 rfl rfl)
theorem dX7_swap_65 : decode cX7_swap 65 = .ok (.bipush 10, 2) := dk_16 10 (dk_at dksX7_swap_2 18 rfl rfl)
theorem dX7_swap_67 : decode cX7_swap 67 = .ok (.iload_n 3, 1) := dk_29 (dk_at dksX7_swap_2 20 rfl rfl)
theorem dX7_swap_68 : decode cX7_swap 68 = .ok (.imul, 1) := dk_104 (dk_at dksX7_swap_2 21 rfl rfl)
theorem dX7_swap_69 : decode cX7_swap 69 = .ok (.iload 4, 2) := dk_21 4 (dk_at dksX7_swap_2 22 rfl rfl)
theorem dX7_swap_71 : decode cX7_swap 71 = .ok (.iadd, 1) := dk_96 (dk_at dksX7_swap_3 0 rfl rfl)
theorem dX7_swap_72 : decode cX7_swap 72 = .ok (.istore_n 2, 1) := dk_61 (dk_at dksX7_swap_3 1 rfl rfl)
theorem dX7_swap_73 : decode cX7_swap 73 = .ok (.iload 5, 2) := dk_21 5 (dk_at dksX7_swap_3 2 rfl rfl)
theorem dX7_swap_75 : decode cX7_swap 75 = .ok (.istore_n 1, 1) := dk_60 (dk_at dksX7_swap_3 4 rfl rfl)
theorem dX7_swap_76 : decode cX7_swap 76 = .ok (.iinc 4 1, 3) := dk_132 4 1 (dk_at dksX7_swap_3 5 rfl rfl)
theorem dX7_swap_79 : decode cX7_swap 79 = .ok (.goto (-52), 3) := dk_167 255 204 (dk_at dksX7_swap_3 8 rfl rfl)
theorem dX7_swap_82 : decode cX7_swap 82 = .ok (.iinc 3 1, 3) := dk_132 3 1 (dk_at dksX7_swap_3 11 rfl rfl)
theorem dX7_swap_85 : decode cX7_swap 85 = .ok (.goto (-71), 3) := dk_167 255 185 (dk_at dksX7_swap_3 14 rfl rfl)
theorem dX7_swap_88 : decode cX7_swap 88 = .ok (.iload_n 2, 1) := dk_28 (dk_at dksX7_swap_3 17 rfl rfl)
theorem dX7_swap_89 : decode cX7_swap 89 = .ok (.ireturn, 1) := dk_172 (dk_at dksX7_swap_3 18 rfl rfl)
abbrev cX7_slack : ByteArray := prog_20_method_98_code
def yX7_slack : MethodName := ⟨RX7, "slack", "(I)I"⟩
def dkwX7_slack_1 : List UInt8 := [167, 0, 8, 42, 4, 182, 1, 13, 172]
abbrev dktX7_slack_1 : List UInt8 := dkwX7_slack_1 ++ []
def dkwX7_slack_0 : List UInt8 := [42, 3, 181, 0, 143, 42, 27, 182, 1, 86, 153, 0, 17, 42, 27, 182, 1, 55, 42, 27, 182, 1, 52, 100]
abbrev dktX7_slack_0 : List UInt8 := dkwX7_slack_0 ++ dktX7_slack_1
theorem dksX7_slack_0 : cX7_slack.data.toList.drop 0 = dktX7_slack_0 := by decide +kernel
theorem dksX7_slack_1 : cX7_slack.data.toList.drop 24 = dktX7_slack_1 := dk_seg dksX7_slack_0 24 rfl rfl
theorem dX7_slack_0 : decode cX7_slack 0 = .ok (.aload_n 0, 1) := dk_42 (dk_at dksX7_slack_0 0 rfl rfl)
theorem dX7_slack_1 : decode cX7_slack 1 = .ok (.iconst 0, 1) := dk_3 (dk_at dksX7_slack_0 1 rfl rfl)
theorem dX7_slack_2 : decode cX7_slack 2 = .ok (.putfield 143, 3) := dk_181 0 143 (dk_at dksX7_slack_0 2 rfl rfl)
theorem dX7_slack_5 : decode cX7_slack 5 = .ok (.aload_n 0, 1) := dk_42 (dk_at dksX7_slack_0 5 rfl rfl)
theorem dX7_slack_6 : decode cX7_slack 6 = .ok (.iload_n 1, 1) := dk_27 (dk_at dksX7_slack_0 6 rfl rfl)
theorem dX7_slack_7 : decode cX7_slack 7 = .ok (.invokevirtual 342, 3) := dk_182 1 86 (dk_at dksX7_slack_0 7 rfl rfl)
theorem dX7_slack_10 : decode cX7_slack 10 = .ok (.ifCond .eq 17, 3) := dk_153 0 17 (dk_at dksX7_slack_0 10 rfl rfl)
theorem dX7_slack_13 : decode cX7_slack 13 = .ok (.aload_n 0, 1) := dk_42 (dk_at dksX7_slack_0 13 rfl rfl)
theorem dX7_slack_14 : decode cX7_slack 14 = .ok (.iload_n 1, 1) := dk_27 (dk_at dksX7_slack_0 14 rfl rfl)
theorem dX7_slack_15 : decode cX7_slack 15 = .ok (.invokevirtual 311, 3) := dk_182 1 55 (dk_at dksX7_slack_0 15 rfl rfl)
theorem dX7_slack_18 : decode cX7_slack 18 = .ok (.aload_n 0, 1) := dk_42 (dk_at dksX7_slack_0 18 rfl rfl)
theorem dX7_slack_19 : decode cX7_slack 19 = .ok (.iload_n 1, 1) := dk_27 (dk_at dksX7_slack_0 19 rfl rfl)
theorem dX7_slack_20 : decode cX7_slack 20 = .ok (.invokevirtual 308, 3) := dk_182 1 52 (dk_at dksX7_slack_0 20 rfl rfl)
theorem dX7_slack_23 : decode cX7_slack 23 = .ok (.isub, 1) := dk_100 (dk_at dksX7_slack_0 23 rfl rfl)
theorem dX7_slack_24 : decode cX7_slack 24 = .ok (.goto 8, 3) := dk_167 0 8 (dk_at dksX7_slack_1 0 rfl rfl)
theorem dX7_slack_27 : decode cX7_slack 27 = .ok (.aload_n 0, 1) := dk_42 (dk_at dksX7_slack_1 3 rfl rfl)
theorem dX7_slack_28 : decode cX7_slack 28 = .ok (.iconst 1, 1) := dk_4 (dk_at dksX7_slack_1 4 rfl rfl)
theorem dX7_slack_29 : decode cX7_slack 29 = .ok (.invokevirtual 269, 3) := dk_182 1 13 (dk_at dksX7_slack_1 5 rfl rfl)
theorem dX7_slack_32 : decode cX7_slack 32 = .ok (.ireturn, 1) := dk_172 (dk_at dksX7_slack_1 8 rfl rfl)
abbrev cX7_crooked : ByteArray := prog_20_method_99_code
def yX7_crooked : MethodName := ⟨RX7, "crooked", "()I"⟩
def dkwX7_crooked_2 : List UInt8 := [167, 255, 219, 27, 172]
abbrev dktX7_crooked_2 : List UInt8 := dkwX7_crooked_2 ++ []
def dkwX7_crooked_1 : List UInt8 := [182, 1, 58, 184, 1, 61, 42, 27, 182, 1, 58, 184, 1, 61, 164, 0, 5, 28, 60, 132, 2, 1]
abbrev dktX7_crooked_1 : List UInt8 := dkwX7_crooked_1 ++ dktX7_crooked_2
def dkwX7_crooked_0 : List UInt8 := [42, 3, 181, 0, 143, 2, 60, 3, 61, 28, 42, 180, 0, 150, 162, 0, 35, 27, 2, 159, 0, 22, 42, 28]
abbrev dktX7_crooked_0 : List UInt8 := dkwX7_crooked_0 ++ dktX7_crooked_1
theorem dksX7_crooked_0 : cX7_crooked.data.toList.drop 0 = dktX7_crooked_0 := by decide +kernel
theorem dksX7_crooked_1 : cX7_crooked.data.toList.drop 24 = dktX7_crooked_1 := dk_seg dksX7_crooked_0 24 rfl rfl
theorem dksX7_crooked_2 : cX7_crooked.data.toList.drop 46 = dktX7_crooked_2 := dk_seg dksX7_crooked_1 22 rfl rfl
theorem dX7_crooked_0 : decode cX7_crooked 0 = .ok (.aload_n 0, 1) := dk_42 (dk_at dksX7_crooked_0 0 rfl rfl)
theorem dX7_crooked_1 : decode cX7_crooked 1 = .ok (.iconst 0, 1) := dk_3 (dk_at dksX7_crooked_0 1 rfl rfl)
theorem dX7_crooked_2 : decode cX7_crooked 2 = .ok (.putfield 143, 3) := dk_181 0 143 (dk_at dksX7_crooked_0 2 rfl rfl)
theorem dX7_crooked_5 : decode cX7_crooked 5 = .ok (.iconst (-1), 1) := dk_2 (dk_at dksX7_crooked_0 5 rfl rfl)
theorem dX7_crooked_6 : decode cX7_crooked 6 = .ok (.istore_n 1, 1) := dk_60 (dk_at dksX7_crooked_0 6 rfl rfl)
theorem dX7_crooked_7 : decode cX7_crooked 7 = .ok (.iconst 0, 1) := dk_3 (dk_at dksX7_crooked_0 7 rfl rfl)
theorem dX7_crooked_8 : decode cX7_crooked 8 = .ok (.istore_n 2, 1) := dk_61 (dk_at dksX7_crooked_0 8 rfl rfl)
theorem dX7_crooked_9 : decode cX7_crooked 9 = .ok (.iload_n 2, 1) := dk_28 (dk_at dksX7_crooked_0 9 rfl rfl)
theorem dX7_crooked_10 : decode cX7_crooked 10 = .ok (.aload_n 0, 1) := dk_42 (dk_at dksX7_crooked_0 10 rfl rfl)
theorem dX7_crooked_11 : decode cX7_crooked 11 = .ok (.getfield 150, 3) := dk_180 0 150 (dk_at dksX7_crooked_0 11 rfl rfl)
theorem dX7_crooked_14 : decode cX7_crooked 14 = .ok (.if_icmp .ge 35, 3) := dk_162 0 35 (dk_at dksX7_crooked_0 14 rfl rfl)
theorem dX7_crooked_17 : decode cX7_crooked 17 = .ok (.iload_n 1, 1) := dk_27 (dk_at dksX7_crooked_0 17 rfl rfl)
theorem dX7_crooked_18 : decode cX7_crooked 18 = .ok (.iconst (-1), 1) := dk_2 (dk_at dksX7_crooked_0 18 rfl rfl)
theorem dX7_crooked_19 : decode cX7_crooked 19 = .ok (.if_icmp .eq 22, 3) := dk_159 0 22 (dk_at dksX7_crooked_0 19 rfl rfl)
theorem dX7_crooked_22 : decode cX7_crooked 22 = .ok (.aload_n 0, 1) := dk_42 (dk_at dksX7_crooked_0 22 rfl rfl)
theorem dX7_crooked_23 : decode cX7_crooked 23 = .ok (.iload_n 2, 1) := dk_28 (dk_at dksX7_crooked_0 23 rfl rfl)
theorem dX7_crooked_24 : decode cX7_crooked 24 = .ok (.invokevirtual 314, 3) := dk_182 1 58 (dk_at dksX7_crooked_1 0 rfl rfl)
theorem dX7_crooked_27 : decode cX7_crooked 27 = .ok (.invokestatic 317, 3) := dk_184 1 61 (dk_at dksX7_crooked_1 3 rfl rfl)
theorem dX7_crooked_30 : decode cX7_crooked 30 = .ok (.aload_n 0, 1) := dk_42 (dk_at dksX7_crooked_1 6 rfl rfl)
theorem dX7_crooked_31 : decode cX7_crooked 31 = .ok (.iload_n 1, 1) := dk_27 (dk_at dksX7_crooked_1 7 rfl rfl)
theorem dX7_crooked_32 : decode cX7_crooked 32 = .ok (.invokevirtual 314, 3) := dk_182 1 58 (dk_at dksX7_crooked_1 8 rfl rfl)
theorem dX7_crooked_35 : decode cX7_crooked 35 = .ok (.invokestatic 317, 3) := dk_184 1 61 (dk_at dksX7_crooked_1 11 rfl rfl)
theorem dX7_crooked_38 : decode cX7_crooked 38 = .ok (.if_icmp .le 5, 3) := dk_164 0 5 (dk_at dksX7_crooked_1 14 rfl rfl)
theorem dX7_crooked_41 : decode cX7_crooked 41 = .ok (.iload_n 2, 1) := dk_28 (dk_at dksX7_crooked_1 17 rfl rfl)
theorem dX7_crooked_42 : decode cX7_crooked 42 = .ok (.istore_n 1, 1) := dk_60 (dk_at dksX7_crooked_1 18 rfl rfl)
theorem dX7_crooked_43 : decode cX7_crooked 43 = .ok (.iinc 2 1, 3) := dk_132 2 1 (dk_at dksX7_crooked_1 19 rfl rfl)
theorem dX7_crooked_46 : decode cX7_crooked 46 = .ok (.goto (-37), 3) := dk_167 255 219 (dk_at dksX7_crooked_2 0 rfl rfl)
theorem dX7_crooked_49 : decode cX7_crooked 49 = .ok (.iload_n 1, 1) := dk_27 (dk_at dksX7_crooked_2 3 rfl rfl)
theorem dX7_crooked_50 : decode cX7_crooked 50 = .ok (.ireturn, 1) := dk_172 (dk_at dksX7_crooked_2 4 rfl rfl)
abbrev cX7_see : ByteArray := prog_20_method_100_code
def yX7_see : MethodName := ⟨RX7, "see", "(II)I"⟩
def dkwX7_see_3 : List UInt8 := [181, 1, 32, 42, 180, 1, 32, 172]
abbrev dktX7_see_3 : List UInt8 := dkwX7_see_3 ++ []
def dkwX7_see_2 : List UInt8 := [180, 1, 32, 27, 79, 42, 180, 0, 116, 42, 180, 1, 32, 28, 79, 42, 89, 180, 1, 32, 4, 96]
abbrev dktX7_see_2 : List UInt8 := dkwX7_see_2 ++ dktX7_see_3
def dkwX7_see_1 : List UInt8 := [20, 1, 184, 20, 1, 171, 184, 0, 146, 154, 0, 9, 42, 5, 182, 1, 95, 172, 42, 180, 0, 113, 42]
abbrev dktX7_see_1 : List UInt8 := dkwX7_see_1 ++ dktX7_see_2
def dkwX7_see_0 : List UInt8 := [42, 3, 181, 0, 143, 42, 180, 1, 32, 16, 8, 159, 0, 25, 42, 27, 182, 1, 86, 153, 0, 17, 28, 133]
abbrev dktX7_see_0 : List UInt8 := dkwX7_see_0 ++ dktX7_see_1
theorem dksX7_see_0 : cX7_see.data.toList.drop 0 = dktX7_see_0 := by decide +kernel
theorem dksX7_see_1 : cX7_see.data.toList.drop 24 = dktX7_see_1 := dk_seg dksX7_see_0 24 rfl rfl
theorem dksX7_see_2 : cX7_see.data.toList.drop 47 = dktX7_see_2 := dk_seg dksX7_see_1 23 rfl rfl
theorem dksX7_see_3 : cX7_see.data.toList.drop 69 = dktX7_see_3 := dk_seg dksX7_see_2 22 rfl rfl
theorem dX7_see_0 : decode cX7_see 0 = .ok (.aload_n 0, 1) := dk_42 (dk_at dksX7_see_0 0 rfl rfl)
theorem dX7_see_1 : decode cX7_see 1 = .ok (.iconst 0, 1) := dk_3 (dk_at dksX7_see_0 1 rfl rfl)
theorem dX7_see_2 : decode cX7_see 2 = .ok (.putfield 143, 3) := dk_181 0 143 (dk_at dksX7_see_0 2 rfl rfl)
theorem dX7_see_5 : decode cX7_see 5 = .ok (.aload_n 0, 1) := dk_42 (dk_at dksX7_see_0 5 rfl rfl)
theorem dX7_see_6 : decode cX7_see 6 = .ok (.getfield 288, 3) := dk_180 1 32 (dk_at dksX7_see_0 6 rfl rfl)
theorem dX7_see_9 : decode cX7_see 9 = .ok (.bipush 8, 2) := dk_16 8 (dk_at dksX7_see_0 9 rfl rfl)
theorem dX7_see_11 : decode cX7_see 11 = .ok (.if_icmp .eq 25, 3) := dk_159 0 25 (dk_at dksX7_see_0 11 rfl rfl)
theorem dX7_see_14 : decode cX7_see 14 = .ok (.aload_n 0, 1) := dk_42 (dk_at dksX7_see_0 14 rfl rfl)
theorem dX7_see_15 : decode cX7_see 15 = .ok (.iload_n 1, 1) := dk_27 (dk_at dksX7_see_0 15 rfl rfl)
theorem dX7_see_16 : decode cX7_see 16 = .ok (.invokevirtual 342, 3) := dk_182 1 86 (dk_at dksX7_see_0 16 rfl rfl)
theorem dX7_see_19 : decode cX7_see 19 = .ok (.ifCond .eq 17, 3) := dk_153 0 17 (dk_at dksX7_see_0 19 rfl rfl)
theorem dX7_see_22 : decode cX7_see 22 = .ok (.iload_n 2, 1) := dk_28 (dk_at dksX7_see_0 22 rfl rfl)
theorem dX7_see_23 : decode cX7_see 23 = .ok (.i2l, 1) := dk_133 (dk_at dksX7_see_0 23 rfl rfl)
theorem dX7_see_24 : decode cX7_see 24 = .ok (.ldc2_w 440, 3) := dk_20 1 184 (dk_at dksX7_see_1 0 rfl rfl)
theorem dX7_see_27 : decode cX7_see 27 = .ok (.ldc2_w 427, 3) := dk_20 1 171 (dk_at dksX7_see_1 3 rfl rfl)
theorem dX7_see_30 : decode cX7_see 30 = .ok (.invokestatic 146, 3) := dk_184 0 146 (dk_at dksX7_see_1 6 rfl rfl)
theorem dX7_see_33 : decode cX7_see 33 = .ok (.ifCond .ne 9, 3) := dk_154 0 9 (dk_at dksX7_see_1 9 rfl rfl)
theorem dX7_see_36 : decode cX7_see 36 = .ok (.aload_n 0, 1) := dk_42 (dk_at dksX7_see_1 12 rfl rfl)
theorem dX7_see_37 : decode cX7_see 37 = .ok (.iconst 2, 1) := dk_5 (dk_at dksX7_see_1 13 rfl rfl)
theorem dX7_see_38 : decode cX7_see 38 = .ok (.invokevirtual 351, 3) := dk_182 1 95 (dk_at dksX7_see_1 14 rfl rfl)
theorem dX7_see_41 : decode cX7_see 41 = .ok (.ireturn, 1) := dk_172 (dk_at dksX7_see_1 17 rfl rfl)
theorem dX7_see_42 : decode cX7_see 42 = .ok (.aload_n 0, 1) := dk_42 (dk_at dksX7_see_1 18 rfl rfl)
theorem dX7_see_43 : decode cX7_see 43 = .ok (.getfield 113, 3) := dk_180 0 113 (dk_at dksX7_see_1 19 rfl rfl)
theorem dX7_see_46 : decode cX7_see 46 = .ok (.aload_n 0, 1) := dk_42 (dk_at dksX7_see_1 22 rfl rfl)
theorem dX7_see_47 : decode cX7_see 47 = .ok (.getfield 288, 3) := dk_180 1 32 (dk_at dksX7_see_2 0 rfl rfl)
theorem dX7_see_50 : decode cX7_see 50 = .ok (.iload_n 1, 1) := dk_27 (dk_at dksX7_see_2 3 rfl rfl)
theorem dX7_see_51 : decode cX7_see 51 = .ok (.iastore, 1) := dk_79 (dk_at dksX7_see_2 4 rfl rfl)
theorem dX7_see_52 : decode cX7_see 52 = .ok (.aload_n 0, 1) := dk_42 (dk_at dksX7_see_2 5 rfl rfl)
theorem dX7_see_53 : decode cX7_see 53 = .ok (.getfield 116, 3) := dk_180 0 116 (dk_at dksX7_see_2 6 rfl rfl)
theorem dX7_see_56 : decode cX7_see 56 = .ok (.aload_n 0, 1) := dk_42 (dk_at dksX7_see_2 9 rfl rfl)
theorem dX7_see_57 : decode cX7_see 57 = .ok (.getfield 288, 3) := dk_180 1 32 (dk_at dksX7_see_2 10 rfl rfl)
theorem dX7_see_60 : decode cX7_see 60 = .ok (.iload_n 2, 1) := dk_28 (dk_at dksX7_see_2 13 rfl rfl)
theorem dX7_see_61 : decode cX7_see 61 = .ok (.iastore, 1) := dk_79 (dk_at dksX7_see_2 14 rfl rfl)
theorem dX7_see_62 : decode cX7_see 62 = .ok (.aload_n 0, 1) := dk_42 (dk_at dksX7_see_2 15 rfl rfl)
theorem dX7_see_63 : decode cX7_see 63 = .ok (.dup, 1) := dk_89 (dk_at dksX7_see_2 16 rfl rfl)
theorem dX7_see_64 : decode cX7_see 64 = .ok (.getfield 288, 3) := dk_180 1 32 (dk_at dksX7_see_2 17 rfl rfl)
theorem dX7_see_67 : decode cX7_see 67 = .ok (.iconst 1, 1) := dk_4 (dk_at dksX7_see_2 20 rfl rfl)
theorem dX7_see_68 : decode cX7_see 68 = .ok (.iadd, 1) := dk_96 (dk_at dksX7_see_2 21 rfl rfl)
theorem dX7_see_69 : decode cX7_see 69 = .ok (.putfield 288, 3) := dk_181 1 32 (dk_at dksX7_see_3 0 rfl rfl)
theorem dX7_see_72 : decode cX7_see 72 = .ok (.aload_n 0, 1) := dk_42 (dk_at dksX7_see_3 3 rfl rfl)
theorem dX7_see_73 : decode cX7_see 73 = .ok (.getfield 288, 3) := dk_180 1 32 (dk_at dksX7_see_3 4 rfl rfl)
theorem dX7_see_76 : decode cX7_see 76 = .ok (.ireturn, 1) := dk_172 (dk_at dksX7_see_3 7 rfl rfl)
abbrev cX7_which : ByteArray := prog_20_method_103_code
def yX7_which : MethodName := ⟨RX7, "which", "(I)I"⟩
def dkwX7_which_3 : List UInt8 := [180, 0, 119, 3, 46, 104, 42, 180, 0, 122, 3, 46, 96, 16, 50, 96, 172]
abbrev dktX7_which_3 : List UInt8 := dkwX7_which_3 ++ []
def dkwX7_which_2 : List UInt8 := [154, 0, 10, 42, 180, 1, 186, 167, 0, 33, 42, 180, 1, 186, 154, 0, 7, 2, 167, 0, 22, 16, 100, 42]
abbrev dktX7_which_2 : List UInt8 := dkwX7_which_2 ++ dktX7_which_3
def dkwX7_which_1 : List UInt8 := [5, 160, 0, 16, 42, 182, 1, 189, 153, 0, 7, 4, 167, 0, 4, 3, 172, 42, 182, 1, 194, 27]
abbrev dktX7_which_1 : List UInt8 := dkwX7_which_1 ++ dktX7_which_2
def dkwX7_which_0 : List UInt8 := [42, 3, 181, 0, 143, 27, 133, 9, 20, 1, 192, 184, 0, 146, 154, 0, 9, 42, 4, 182, 1, 13, 172, 27]
abbrev dktX7_which_0 : List UInt8 := dkwX7_which_0 ++ dktX7_which_1
theorem dksX7_which_0 : cX7_which.data.toList.drop 0 = dktX7_which_0 := by decide +kernel
theorem dksX7_which_1 : cX7_which.data.toList.drop 24 = dktX7_which_1 := dk_seg dksX7_which_0 24 rfl rfl
theorem dksX7_which_2 : cX7_which.data.toList.drop 46 = dktX7_which_2 := dk_seg dksX7_which_1 22 rfl rfl
theorem dksX7_which_3 : cX7_which.data.toList.drop 70 = dktX7_which_3 := dk_seg dksX7_which_2 24 rfl rfl
theorem dX7_which_0 : decode cX7_which 0 = .ok (.aload_n 0, 1) := dk_42 (dk_at dksX7_which_0 0 rfl rfl)
theorem dX7_which_1 : decode cX7_which 1 = .ok (.iconst 0, 1) := dk_3 (dk_at dksX7_which_0 1 rfl rfl)
theorem dX7_which_2 : decode cX7_which 2 = .ok (.putfield 143, 3) := dk_181 0 143 (dk_at dksX7_which_0 2 rfl rfl)
theorem dX7_which_5 : decode cX7_which 5 = .ok (.iload_n 1, 1) := dk_27 (dk_at dksX7_which_0 5 rfl rfl)
theorem dX7_which_6 : decode cX7_which 6 = .ok (.i2l, 1) := dk_133 (dk_at dksX7_which_0 6 rfl rfl)
theorem dX7_which_7 : decode cX7_which 7 = .ok (.lconst 0, 1) := dk_9 (dk_at dksX7_which_0 7 rfl rfl)
theorem dX7_which_8 : decode cX7_which 8 = .ok (.ldc2_w 448, 3) := dk_20 1 192 (dk_at dksX7_which_0 8 rfl rfl)
theorem dX7_which_11 : decode cX7_which 11 = .ok (.invokestatic 146, 3) := dk_184 0 146 (dk_at dksX7_which_0 11 rfl rfl)
theorem dX7_which_14 : decode cX7_which 14 = .ok (.ifCond .ne 9, 3) := dk_154 0 9 (dk_at dksX7_which_0 14 rfl rfl)
theorem dX7_which_17 : decode cX7_which 17 = .ok (.aload_n 0, 1) := dk_42 (dk_at dksX7_which_0 17 rfl rfl)
theorem dX7_which_18 : decode cX7_which 18 = .ok (.iconst 1, 1) := dk_4 (dk_at dksX7_which_0 18 rfl rfl)
theorem dX7_which_19 : decode cX7_which 19 = .ok (.invokevirtual 269, 3) := dk_182 1 13 (dk_at dksX7_which_0 19 rfl rfl)
theorem dX7_which_22 : decode cX7_which 22 = .ok (.ireturn, 1) := dk_172 (dk_at dksX7_which_0 22 rfl rfl)
theorem dX7_which_23 : decode cX7_which 23 = .ok (.iload_n 1, 1) := dk_27 (dk_at dksX7_which_0 23 rfl rfl)
theorem dX7_which_24 : decode cX7_which 24 = .ok (.iconst 2, 1) := dk_5 (dk_at dksX7_which_1 0 rfl rfl)
theorem dX7_which_25 : decode cX7_which 25 = .ok (.if_icmp .ne 16, 3) := dk_160 0 16 (dk_at dksX7_which_1 1 rfl rfl)
theorem dX7_which_28 : decode cX7_which 28 = .ok (.aload_n 0, 1) := dk_42 (dk_at dksX7_which_1 4 rfl rfl)
theorem dX7_which_29 : decode cX7_which 29 = .ok (.invokevirtual 445, 3) := dk_182 1 189 (dk_at dksX7_which_1 5 rfl rfl)
theorem dX7_which_32 : decode cX7_which 32 = .ok (.ifCond .eq 7, 3) := dk_153 0 7 (dk_at dksX7_which_1 8 rfl rfl)
theorem dX7_which_35 : decode cX7_which 35 = .ok (.iconst 1, 1) := dk_4 (dk_at dksX7_which_1 11 rfl rfl)
theorem dX7_which_36 : decode cX7_which 36 = .ok (.goto 4, 3) := dk_167 0 4 (dk_at dksX7_which_1 12 rfl rfl)
theorem dX7_which_39 : decode cX7_which 39 = .ok (.iconst 0, 1) := dk_3 (dk_at dksX7_which_1 15 rfl rfl)
theorem dX7_which_40 : decode cX7_which 40 = .ok (.ireturn, 1) := dk_172 (dk_at dksX7_which_1 16 rfl rfl)
theorem dX7_which_41 : decode cX7_which 41 = .ok (.aload_n 0, 1) := dk_42 (dk_at dksX7_which_1 17 rfl rfl)
theorem dX7_which_42 : decode cX7_which 42 = .ok (.invokevirtual 450, 3) := dk_182 1 194 (dk_at dksX7_which_1 18 rfl rfl)
theorem dX7_which_45 : decode cX7_which 45 = .ok (.iload_n 1, 1) := dk_27 (dk_at dksX7_which_1 21 rfl rfl)
theorem dX7_which_46 : decode cX7_which 46 = .ok (.ifCond .ne 10, 3) := dk_154 0 10 (dk_at dksX7_which_2 0 rfl rfl)
theorem dX7_which_49 : decode cX7_which 49 = .ok (.aload_n 0, 1) := dk_42 (dk_at dksX7_which_2 3 rfl rfl)
theorem dX7_which_50 : decode cX7_which 50 = .ok (.getfield 442, 3) := dk_180 1 186 (dk_at dksX7_which_2 4 rfl rfl)
theorem dX7_which_53 : decode cX7_which 53 = .ok (.goto 33, 3) := dk_167 0 33 (dk_at dksX7_which_2 7 rfl rfl)
theorem dX7_which_56 : decode cX7_which 56 = .ok (.aload_n 0, 1) := dk_42 (dk_at dksX7_which_2 10 rfl rfl)
theorem dX7_which_57 : decode cX7_which 57 = .ok (.getfield 442, 3) := dk_180 1 186 (dk_at dksX7_which_2 11 rfl rfl)
theorem dX7_which_60 : decode cX7_which 60 = .ok (.ifCond .ne 7, 3) := dk_154 0 7 (dk_at dksX7_which_2 14 rfl rfl)
theorem dX7_which_63 : decode cX7_which 63 = .ok (.iconst (-1), 1) := dk_2 (dk_at dksX7_which_2 17 rfl rfl)
theorem dX7_which_64 : decode cX7_which 64 = .ok (.goto 22, 3) := dk_167 0 22 (dk_at dksX7_which_2 18 rfl rfl)
theorem dX7_which_67 : decode cX7_which 67 = .ok (.bipush 100, 2) := dk_16 100 (dk_at dksX7_which_2 21 rfl rfl)
theorem dX7_which_69 : decode cX7_which 69 = .ok (.aload_n 0, 1) := dk_42 (dk_at dksX7_which_2 23 rfl rfl)
theorem dX7_which_70 : decode cX7_which 70 = .ok (.getfield 119, 3) := dk_180 0 119 (dk_at dksX7_which_3 0 rfl rfl)
theorem dX7_which_73 : decode cX7_which 73 = .ok (.iconst 0, 1) := dk_3 (dk_at dksX7_which_3 3 rfl rfl)
theorem dX7_which_74 : decode cX7_which 74 = .ok (.iaload, 1) := dk_46 (dk_at dksX7_which_3 4 rfl rfl)
theorem dX7_which_75 : decode cX7_which 75 = .ok (.imul, 1) := dk_104 (dk_at dksX7_which_3 5 rfl rfl)
theorem dX7_which_76 : decode cX7_which 76 = .ok (.aload_n 0, 1) := dk_42 (dk_at dksX7_which_3 6 rfl rfl)
theorem dX7_which_77 : decode cX7_which 77 = .ok (.getfield 122, 3) := dk_180 0 122 (dk_at dksX7_which_3 7 rfl rfl)
theorem dX7_which_80 : decode cX7_which 80 = .ok (.iconst 0, 1) := dk_3 (dk_at dksX7_which_3 10 rfl rfl)
theorem dX7_which_81 : decode cX7_which 81 = .ok (.iaload, 1) := dk_46 (dk_at dksX7_which_3 11 rfl rfl)
theorem dX7_which_82 : decode cX7_which 82 = .ok (.iadd, 1) := dk_96 (dk_at dksX7_which_3 12 rfl rfl)
theorem dX7_which_83 : decode cX7_which 83 = .ok (.bipush 50, 2) := dk_16 50 (dk_at dksX7_which_3 13 rfl rfl)
theorem dX7_which_85 : decode cX7_which 85 = .ok (.iadd, 1) := dk_96 (dk_at dksX7_which_3 15 rfl rfl)
theorem dX7_which_86 : decode cX7_which 86 = .ok (.ireturn, 1) := dk_172 (dk_at dksX7_which_3 16 rfl rfl)
abbrev cX7_isAsSeen : ByteArray := prog_20_method_101_code
def yX7_isAsSeen : MethodName := ⟨RX7, "isAsSeen", "()Z"⟩
def dkwX7_isAsSeen_2 : List UInt8 := [167, 255, 211, 4, 172]
abbrev dktX7_isAsSeen_2 : List UInt8 := dkwX7_isAsSeen_2 ++ []
def dkwX7_isAsSeen_1 : List UInt8 := [42, 180, 0, 113, 27, 46, 182, 1, 58, 42, 180, 0, 116, 27, 46, 159, 0, 5, 3, 172, 132, 1, 1]
abbrev dktX7_isAsSeen_1 : List UInt8 := dkwX7_isAsSeen_1 ++ dktX7_isAsSeen_2
def dkwX7_isAsSeen_0 : List UInt8 := [3, 60, 27, 42, 180, 1, 32, 162, 0, 43, 42, 42, 180, 0, 113, 27, 46, 182, 1, 86, 153, 0, 22, 42]
abbrev dktX7_isAsSeen_0 : List UInt8 := dkwX7_isAsSeen_0 ++ dktX7_isAsSeen_1
theorem dksX7_isAsSeen_0 : cX7_isAsSeen.data.toList.drop 0 = dktX7_isAsSeen_0 := by decide +kernel
theorem dksX7_isAsSeen_1 : cX7_isAsSeen.data.toList.drop 24 = dktX7_isAsSeen_1 := dk_seg dksX7_isAsSeen_0 24 rfl rfl
theorem dksX7_isAsSeen_2 : cX7_isAsSeen.data.toList.drop 47 = dktX7_isAsSeen_2 := dk_seg dksX7_isAsSeen_1 23 rfl rfl
theorem dX7_isAsSeen_0 : decode cX7_isAsSeen 0 = .ok (.iconst 0, 1) := dk_3 (dk_at dksX7_isAsSeen_0 0 rfl rfl)
theorem dX7_isAsSeen_1 : decode cX7_isAsSeen 1 = .ok (.istore_n 1, 1) := dk_60 (dk_at dksX7_isAsSeen_0 1 rfl rfl)
theorem dX7_isAsSeen_2 : decode cX7_isAsSeen 2 = .ok (.iload_n 1, 1) := dk_27 (dk_at dksX7_isAsSeen_0 2 rfl rfl)
theorem dX7_isAsSeen_3 : decode cX7_isAsSeen 3 = .ok (.aload_n 0, 1) := dk_42 (dk_at dksX7_isAsSeen_0 3 rfl rfl)
theorem dX7_isAsSeen_4 : decode cX7_isAsSeen 4 = .ok (.getfield 288, 3) := dk_180 1 32 (dk_at dksX7_isAsSeen_0 4 rfl rfl)
theorem dX7_isAsSeen_7 : decode cX7_isAsSeen 7 = .ok (.if_icmp .ge 43, 3) := dk_162 0 43 (dk_at dksX7_isAsSeen_0 7 rfl rfl)
theorem dX7_isAsSeen_10 : decode cX7_isAsSeen 10 = .ok (.aload_n 0, 1) := dk_42 (dk_at dksX7_isAsSeen_0 10 rfl rfl)
theorem dX7_isAsSeen_11 : decode cX7_isAsSeen 11 = .ok (.aload_n 0, 1) := dk_42 (dk_at dksX7_isAsSeen_0 11 rfl rfl)
theorem dX7_isAsSeen_12 : decode cX7_isAsSeen 12 = .ok (.getfield 113, 3) := dk_180 0 113 (dk_at dksX7_isAsSeen_0 12 rfl rfl)
theorem dX7_isAsSeen_15 : decode cX7_isAsSeen 15 = .ok (.iload_n 1, 1) := dk_27 (dk_at dksX7_isAsSeen_0 15 rfl rfl)
theorem dX7_isAsSeen_16 : decode cX7_isAsSeen 16 = .ok (.iaload, 1) := dk_46 (dk_at dksX7_isAsSeen_0 16 rfl rfl)
theorem dX7_isAsSeen_17 : decode cX7_isAsSeen 17 = .ok (.invokevirtual 342, 3) := dk_182 1 86 (dk_at dksX7_isAsSeen_0 17 rfl rfl)
theorem dX7_isAsSeen_20 : decode cX7_isAsSeen 20 = .ok (.ifCond .eq 22, 3) := dk_153 0 22 (dk_at dksX7_isAsSeen_0 20 rfl rfl)
theorem dX7_isAsSeen_23 : decode cX7_isAsSeen 23 = .ok (.aload_n 0, 1) := dk_42 (dk_at dksX7_isAsSeen_0 23 rfl rfl)
theorem dX7_isAsSeen_24 : decode cX7_isAsSeen 24 = .ok (.aload_n 0, 1) := dk_42 (dk_at dksX7_isAsSeen_1 0 rfl rfl)
theorem dX7_isAsSeen_25 : decode cX7_isAsSeen 25 = .ok (.getfield 113, 3) := dk_180 0 113 (dk_at dksX7_isAsSeen_1 1 rfl rfl)
theorem dX7_isAsSeen_28 : decode cX7_isAsSeen 28 = .ok (.iload_n 1, 1) := dk_27 (dk_at dksX7_isAsSeen_1 4 rfl rfl)
theorem dX7_isAsSeen_29 : decode cX7_isAsSeen 29 = .ok (.iaload, 1) := dk_46 (dk_at dksX7_isAsSeen_1 5 rfl rfl)
theorem dX7_isAsSeen_30 : decode cX7_isAsSeen 30 = .ok (.invokevirtual 314, 3) := dk_182 1 58 (dk_at dksX7_isAsSeen_1 6 rfl rfl)
theorem dX7_isAsSeen_33 : decode cX7_isAsSeen 33 = .ok (.aload_n 0, 1) := dk_42 (dk_at dksX7_isAsSeen_1 9 rfl rfl)
theorem dX7_isAsSeen_34 : decode cX7_isAsSeen 34 = .ok (.getfield 116, 3) := dk_180 0 116 (dk_at dksX7_isAsSeen_1 10 rfl rfl)
theorem dX7_isAsSeen_37 : decode cX7_isAsSeen 37 = .ok (.iload_n 1, 1) := dk_27 (dk_at dksX7_isAsSeen_1 13 rfl rfl)
theorem dX7_isAsSeen_38 : decode cX7_isAsSeen 38 = .ok (.iaload, 1) := dk_46 (dk_at dksX7_isAsSeen_1 14 rfl rfl)
theorem dX7_isAsSeen_39 : decode cX7_isAsSeen 39 = .ok (.if_icmp .eq 5, 3) := dk_159 0 5 (dk_at dksX7_isAsSeen_1 15 rfl rfl)
theorem dX7_isAsSeen_42 : decode cX7_isAsSeen 42 = .ok (.iconst 0, 1) := dk_3 (dk_at dksX7_isAsSeen_1 18 rfl rfl)
theorem dX7_isAsSeen_43 : decode cX7_isAsSeen 43 = .ok (.ireturn, 1) := dk_172 (dk_at dksX7_isAsSeen_1 19 rfl rfl)
theorem dX7_isAsSeen_44 : decode cX7_isAsSeen 44 = .ok (.iinc 1 1, 3) := dk_132 1 1 (dk_at dksX7_isAsSeen_1 20 rfl rfl)
theorem dX7_isAsSeen_47 : decode cX7_isAsSeen 47 = .ok (.goto (-45), 3) := dk_167 255 211 (dk_at dksX7_isAsSeen_2 0 rfl rfl)
theorem dX7_isAsSeen_50 : decode cX7_isAsSeen 50 = .ok (.iconst 1, 1) := dk_4 (dk_at dksX7_isAsSeen_2 3 rfl rfl)
theorem dX7_isAsSeen_51 : decode cX7_isAsSeen 51 = .ok (.ireturn, 1) := dk_172 (dk_at dksX7_isAsSeen_2 4 rfl rfl)
abbrev cX7_tellFits : ByteArray := prog_20_method_102_code
def yX7_tellFits : MethodName := ⟨RX7, "tellFits", "()V"⟩
def dkwX7_tellFits_4 : List UInt8 := [181, 1, 186, 132, 4, 1, 167, 255, 191, 42, 180, 0, 79, 28, 29, 79, 132, 1, 1, 167, 255, 152, 177]
abbrev dktX7_tellFits_4 : List UInt8 := dkwX7_tellFits_4 ++ []
def dkwX7_tellFits_3 : List UInt8 := [180, 1, 186, 28, 79, 42, 180, 0, 122, 42, 180, 1, 186, 21, 4, 79, 42, 89, 180, 1, 186, 4, 96]
abbrev dktX7_tellFits_3 : List UInt8 := dkwX7_tellFits_3 ++ dktX7_tellFits_4
def dkwX7_tellFits_2 : List UInt8 := [79, 21, 4, 29, 159, 0, 44, 42, 182, 1, 189, 154, 0, 6, 167, 0, 34, 42, 180, 0, 119, 42]
abbrev dktX7_tellFits_2 : List UInt8 := dkwX7_tellFits_2 ++ dktX7_tellFits_3
def dkwX7_tellFits_1 : List UInt8 := [180, 0, 79, 28, 46, 62, 16, 247, 54, 4, 21, 4, 16, 9, 163, 0, 64, 42, 180, 0, 79, 28, 21, 4]
abbrev dktX7_tellFits_1 : List UInt8 := dkwX7_tellFits_1 ++ dktX7_tellFits_2
def dkwX7_tellFits_0 : List UInt8 := [42, 3, 181, 1, 186, 3, 60, 27, 42, 180, 0, 150, 162, 0, 102, 42, 180, 0, 70, 27, 46, 61, 42]
abbrev dktX7_tellFits_0 : List UInt8 := dkwX7_tellFits_0 ++ dktX7_tellFits_1
theorem dksX7_tellFits_0 : cX7_tellFits.data.toList.drop 0 = dktX7_tellFits_0 := by decide +kernel
theorem dksX7_tellFits_1 : cX7_tellFits.data.toList.drop 23 = dktX7_tellFits_1 := dk_seg dksX7_tellFits_0 23 rfl rfl
theorem dksX7_tellFits_2 : cX7_tellFits.data.toList.drop 47 = dktX7_tellFits_2 := dk_seg dksX7_tellFits_1 24 rfl rfl
theorem dksX7_tellFits_3 : cX7_tellFits.data.toList.drop 69 = dktX7_tellFits_3 := dk_seg dksX7_tellFits_2 22 rfl rfl
theorem dksX7_tellFits_4 : cX7_tellFits.data.toList.drop 92 = dktX7_tellFits_4 := dk_seg dksX7_tellFits_3 23 rfl rfl
theorem dX7_tellFits_0 : decode cX7_tellFits 0 = .ok (.aload_n 0, 1) := dk_42 (dk_at dksX7_tellFits_0 0 rfl rfl)
theorem dX7_tellFits_1 : decode cX7_tellFits 1 = .ok (.iconst 0, 1) := dk_3 (dk_at dksX7_tellFits_0 1 rfl rfl)
theorem dX7_tellFits_2 : decode cX7_tellFits 2 = .ok (.putfield 442, 3) := dk_181 1 186 (dk_at dksX7_tellFits_0 2 rfl rfl)
theorem dX7_tellFits_5 : decode cX7_tellFits 5 = .ok (.iconst 0, 1) := dk_3 (dk_at dksX7_tellFits_0 5 rfl rfl)
theorem dX7_tellFits_6 : decode cX7_tellFits 6 = .ok (.istore_n 1, 1) := dk_60 (dk_at dksX7_tellFits_0 6 rfl rfl)
theorem dX7_tellFits_7 : decode cX7_tellFits 7 = .ok (.iload_n 1, 1) := dk_27 (dk_at dksX7_tellFits_0 7 rfl rfl)
theorem dX7_tellFits_8 : decode cX7_tellFits 8 = .ok (.aload_n 0, 1) := dk_42 (dk_at dksX7_tellFits_0 8 rfl rfl)
theorem dX7_tellFits_9 : decode cX7_tellFits 9 = .ok (.getfield 150, 3) := dk_180 0 150 (dk_at dksX7_tellFits_0 9 rfl rfl)
theorem dX7_tellFits_12 : decode cX7_tellFits 12 = .ok (.if_icmp .ge 102, 3) := dk_162 0 102 (dk_at dksX7_tellFits_0 12 rfl rfl)
theorem dX7_tellFits_15 : decode cX7_tellFits 15 = .ok (.aload_n 0, 1) := dk_42 (dk_at dksX7_tellFits_0 15 rfl rfl)
theorem dX7_tellFits_16 : decode cX7_tellFits 16 = .ok (.getfield 70, 3) := dk_180 0 70 (dk_at dksX7_tellFits_0 16 rfl rfl)
theorem dX7_tellFits_19 : decode cX7_tellFits 19 = .ok (.iload_n 1, 1) := dk_27 (dk_at dksX7_tellFits_0 19 rfl rfl)
theorem dX7_tellFits_20 : decode cX7_tellFits 20 = .ok (.iaload, 1) := dk_46 (dk_at dksX7_tellFits_0 20 rfl rfl)
theorem dX7_tellFits_21 : decode cX7_tellFits 21 = .ok (.istore_n 2, 1) := dk_61 (dk_at dksX7_tellFits_0 21 rfl rfl)
theorem dX7_tellFits_22 : decode cX7_tellFits 22 = .ok (.aload_n 0, 1) := dk_42 (dk_at dksX7_tellFits_0 22 rfl rfl)
theorem dX7_tellFits_23 : decode cX7_tellFits 23 = .ok (.getfield 79, 3) := dk_180 0 79 (dk_at dksX7_tellFits_1 0 rfl rfl)
theorem dX7_tellFits_26 : decode cX7_tellFits 26 = .ok (.iload_n 2, 1) := dk_28 (dk_at dksX7_tellFits_1 3 rfl rfl)
theorem dX7_tellFits_27 : decode cX7_tellFits 27 = .ok (.iaload, 1) := dk_46 (dk_at dksX7_tellFits_1 4 rfl rfl)
theorem dX7_tellFits_28 : decode cX7_tellFits 28 = .ok (.istore_n 3, 1) := dk_62 (dk_at dksX7_tellFits_1 5 rfl rfl)
theorem dX7_tellFits_29 : decode cX7_tellFits 29 = .ok (.bipush (-9), 2) := dk_16 247 (dk_at dksX7_tellFits_1 6 rfl rfl)
theorem dX7_tellFits_31 : decode cX7_tellFits 31 = .ok (.istore 4, 2) := dk_54 4 (dk_at dksX7_tellFits_1 8 rfl rfl)
theorem dX7_tellFits_33 : decode cX7_tellFits 33 = .ok (.iload 4, 2) := dk_21 4 (dk_at dksX7_tellFits_1 10 rfl rfl)
theorem dX7_tellFits_35 : decode cX7_tellFits 35 = .ok (.bipush 9, 2) := dk_16 9 (dk_at dksX7_tellFits_1 12 rfl rfl)
theorem dX7_tellFits_37 : decode cX7_tellFits 37 = .ok (.if_icmp .gt 64, 3) := dk_163 0 64 (dk_at dksX7_tellFits_1 14 rfl rfl)
theorem dX7_tellFits_40 : decode cX7_tellFits 40 = .ok (.aload_n 0, 1) := dk_42 (dk_at dksX7_tellFits_1 17 rfl rfl)
theorem dX7_tellFits_41 : decode cX7_tellFits 41 = .ok (.getfield 79, 3) := dk_180 0 79 (dk_at dksX7_tellFits_1 18 rfl rfl)
theorem dX7_tellFits_44 : decode cX7_tellFits 44 = .ok (.iload_n 2, 1) := dk_28 (dk_at dksX7_tellFits_1 21 rfl rfl)
theorem dX7_tellFits_45 : decode cX7_tellFits 45 = .ok (.iload 4, 2) := dk_21 4 (dk_at dksX7_tellFits_1 22 rfl rfl)
theorem dX7_tellFits_47 : decode cX7_tellFits 47 = .ok (.iastore, 1) := dk_79 (dk_at dksX7_tellFits_2 0 rfl rfl)
theorem dX7_tellFits_48 : decode cX7_tellFits 48 = .ok (.iload 4, 2) := dk_21 4 (dk_at dksX7_tellFits_2 1 rfl rfl)
theorem dX7_tellFits_50 : decode cX7_tellFits 50 = .ok (.iload_n 3, 1) := dk_29 (dk_at dksX7_tellFits_2 3 rfl rfl)
theorem dX7_tellFits_51 : decode cX7_tellFits 51 = .ok (.if_icmp .eq 44, 3) := dk_159 0 44 (dk_at dksX7_tellFits_2 4 rfl rfl)
theorem dX7_tellFits_54 : decode cX7_tellFits 54 = .ok (.aload_n 0, 1) := dk_42 (dk_at dksX7_tellFits_2 7 rfl rfl)
theorem dX7_tellFits_55 : decode cX7_tellFits 55 = .ok (.invokevirtual 445, 3) := dk_182 1 189 (dk_at dksX7_tellFits_2 8 rfl rfl)
theorem dX7_tellFits_58 : decode cX7_tellFits 58 = .ok (.ifCond .ne 6, 3) := dk_154 0 6 (dk_at dksX7_tellFits_2 11 rfl rfl)
theorem dX7_tellFits_61 : decode cX7_tellFits 61 = .ok (.goto 34, 3) := dk_167 0 34 (dk_at dksX7_tellFits_2 14 rfl rfl)
theorem dX7_tellFits_64 : decode cX7_tellFits 64 = .ok (.aload_n 0, 1) := dk_42 (dk_at dksX7_tellFits_2 17 rfl rfl)
theorem dX7_tellFits_65 : decode cX7_tellFits 65 = .ok (.getfield 119, 3) := dk_180 0 119 (dk_at dksX7_tellFits_2 18 rfl rfl)
theorem dX7_tellFits_68 : decode cX7_tellFits 68 = .ok (.aload_n 0, 1) := dk_42 (dk_at dksX7_tellFits_2 21 rfl rfl)
theorem dX7_tellFits_69 : decode cX7_tellFits 69 = .ok (.getfield 442, 3) := dk_180 1 186 (dk_at dksX7_tellFits_3 0 rfl rfl)
theorem dX7_tellFits_72 : decode cX7_tellFits 72 = .ok (.iload_n 2, 1) := dk_28 (dk_at dksX7_tellFits_3 3 rfl rfl)
theorem dX7_tellFits_73 : decode cX7_tellFits 73 = .ok (.iastore, 1) := dk_79 (dk_at dksX7_tellFits_3 4 rfl rfl)
theorem dX7_tellFits_74 : decode cX7_tellFits 74 = .ok (.aload_n 0, 1) := dk_42 (dk_at dksX7_tellFits_3 5 rfl rfl)
theorem dX7_tellFits_75 : decode cX7_tellFits 75 = .ok (.getfield 122, 3) := dk_180 0 122 (dk_at dksX7_tellFits_3 6 rfl rfl)
theorem dX7_tellFits_78 : decode cX7_tellFits 78 = .ok (.aload_n 0, 1) := dk_42 (dk_at dksX7_tellFits_3 9 rfl rfl)
theorem dX7_tellFits_79 : decode cX7_tellFits 79 = .ok (.getfield 442, 3) := dk_180 1 186 (dk_at dksX7_tellFits_3 10 rfl rfl)
theorem dX7_tellFits_82 : decode cX7_tellFits 82 = .ok (.iload 4, 2) := dk_21 4 (dk_at dksX7_tellFits_3 13 rfl rfl)
theorem dX7_tellFits_84 : decode cX7_tellFits 84 = .ok (.iastore, 1) := dk_79 (dk_at dksX7_tellFits_3 15 rfl rfl)
theorem dX7_tellFits_85 : decode cX7_tellFits 85 = .ok (.aload_n 0, 1) := dk_42 (dk_at dksX7_tellFits_3 16 rfl rfl)
theorem dX7_tellFits_86 : decode cX7_tellFits 86 = .ok (.dup, 1) := dk_89 (dk_at dksX7_tellFits_3 17 rfl rfl)
theorem dX7_tellFits_87 : decode cX7_tellFits 87 = .ok (.getfield 442, 3) := dk_180 1 186 (dk_at dksX7_tellFits_3 18 rfl rfl)
theorem dX7_tellFits_90 : decode cX7_tellFits 90 = .ok (.iconst 1, 1) := dk_4 (dk_at dksX7_tellFits_3 21 rfl rfl)
theorem dX7_tellFits_91 : decode cX7_tellFits 91 = .ok (.iadd, 1) := dk_96 (dk_at dksX7_tellFits_3 22 rfl rfl)
theorem dX7_tellFits_92 : decode cX7_tellFits 92 = .ok (.putfield 442, 3) := dk_181 1 186 (dk_at dksX7_tellFits_4 0 rfl rfl)
theorem dX7_tellFits_95 : decode cX7_tellFits 95 = .ok (.iinc 4 1, 3) := dk_132 4 1 (dk_at dksX7_tellFits_4 3 rfl rfl)
theorem dX7_tellFits_98 : decode cX7_tellFits 98 = .ok (.goto (-65), 3) := dk_167 255 191 (dk_at dksX7_tellFits_4 6 rfl rfl)
theorem dX7_tellFits_101 : decode cX7_tellFits 101 = .ok (.aload_n 0, 1) := dk_42 (dk_at dksX7_tellFits_4 9 rfl rfl)
theorem dX7_tellFits_102 : decode cX7_tellFits 102 = .ok (.getfield 79, 3) := dk_180 0 79 (dk_at dksX7_tellFits_4 10 rfl rfl)
theorem dX7_tellFits_105 : decode cX7_tellFits 105 = .ok (.iload_n 2, 1) := dk_28 (dk_at dksX7_tellFits_4 13 rfl rfl)
theorem dX7_tellFits_106 : decode cX7_tellFits 106 = .ok (.iload_n 3, 1) := dk_29 (dk_at dksX7_tellFits_4 14 rfl rfl)
theorem dX7_tellFits_107 : decode cX7_tellFits 107 = .ok (.iastore, 1) := dk_79 (dk_at dksX7_tellFits_4 15 rfl rfl)
theorem dX7_tellFits_108 : decode cX7_tellFits 108 = .ok (.iinc 1 1, 3) := dk_132 1 1 (dk_at dksX7_tellFits_4 16 rfl rfl)
theorem dX7_tellFits_111 : decode cX7_tellFits 111 = .ok (.goto (-104), 3) := dk_167 255 152 (dk_at dksX7_tellFits_4 19 rfl rfl)
theorem dX7_tellFits_114 : decode cX7_tellFits 114 = .ok (.return_, 1) := dk_177 (dk_at dksX7_tellFits_4 22 rfl rfl)
abbrev cX7_look : ByteArray := prog_20_method_105_code
def yX7_look : MethodName := ⟨RX7, "look", "()I"⟩
def dkwX7_look_2 : List UInt8 := [167, 255, 224, 27, 172]
abbrev dktX7_look_2 : List UInt8 := dkwX7_look_2 ++ []
def dkwX7_look_1 : List UInt8 := [29, 182, 1, 197, 54, 4, 21, 4, 28, 163, 0, 6, 167, 0, 8, 29, 60, 21, 4, 61, 132, 3, 1]
abbrev dktX7_look_1 : List UInt8 := dkwX7_look_1 ++ dktX7_look_2
def dkwX7_look_0 : List UInt8 := [42, 3, 181, 0, 143, 42, 182, 1, 194, 2, 60, 3, 61, 3, 62, 29, 42, 180, 0, 150, 162, 0, 30, 42]
abbrev dktX7_look_0 : List UInt8 := dkwX7_look_0 ++ dktX7_look_1
theorem dksX7_look_0 : cX7_look.data.toList.drop 0 = dktX7_look_0 := by decide +kernel
theorem dksX7_look_1 : cX7_look.data.toList.drop 24 = dktX7_look_1 := dk_seg dksX7_look_0 24 rfl rfl
theorem dksX7_look_2 : cX7_look.data.toList.drop 47 = dktX7_look_2 := dk_seg dksX7_look_1 23 rfl rfl
theorem dX7_look_0 : decode cX7_look 0 = .ok (.aload_n 0, 1) := dk_42 (dk_at dksX7_look_0 0 rfl rfl)
theorem dX7_look_1 : decode cX7_look 1 = .ok (.iconst 0, 1) := dk_3 (dk_at dksX7_look_0 1 rfl rfl)
theorem dX7_look_2 : decode cX7_look 2 = .ok (.putfield 143, 3) := dk_181 0 143 (dk_at dksX7_look_0 2 rfl rfl)
theorem dX7_look_5 : decode cX7_look 5 = .ok (.aload_n 0, 1) := dk_42 (dk_at dksX7_look_0 5 rfl rfl)
theorem dX7_look_6 : decode cX7_look 6 = .ok (.invokevirtual 450, 3) := dk_182 1 194 (dk_at dksX7_look_0 6 rfl rfl)
theorem dX7_look_9 : decode cX7_look 9 = .ok (.iconst (-1), 1) := dk_2 (dk_at dksX7_look_0 9 rfl rfl)
theorem dX7_look_10 : decode cX7_look 10 = .ok (.istore_n 1, 1) := dk_60 (dk_at dksX7_look_0 10 rfl rfl)
theorem dX7_look_11 : decode cX7_look 11 = .ok (.iconst 0, 1) := dk_3 (dk_at dksX7_look_0 11 rfl rfl)
theorem dX7_look_12 : decode cX7_look 12 = .ok (.istore_n 2, 1) := dk_61 (dk_at dksX7_look_0 12 rfl rfl)
theorem dX7_look_13 : decode cX7_look 13 = .ok (.iconst 0, 1) := dk_3 (dk_at dksX7_look_0 13 rfl rfl)
theorem dX7_look_14 : decode cX7_look 14 = .ok (.istore_n 3, 1) := dk_62 (dk_at dksX7_look_0 14 rfl rfl)
theorem dX7_look_15 : decode cX7_look 15 = .ok (.iload_n 3, 1) := dk_29 (dk_at dksX7_look_0 15 rfl rfl)
theorem dX7_look_16 : decode cX7_look 16 = .ok (.aload_n 0, 1) := dk_42 (dk_at dksX7_look_0 16 rfl rfl)
theorem dX7_look_17 : decode cX7_look 17 = .ok (.getfield 150, 3) := dk_180 0 150 (dk_at dksX7_look_0 17 rfl rfl)
theorem dX7_look_20 : decode cX7_look 20 = .ok (.if_icmp .ge 30, 3) := dk_162 0 30 (dk_at dksX7_look_0 20 rfl rfl)
theorem dX7_look_23 : decode cX7_look 23 = .ok (.aload_n 0, 1) := dk_42 (dk_at dksX7_look_0 23 rfl rfl)
theorem dX7_look_24 : decode cX7_look 24 = .ok (.iload_n 3, 1) := dk_29 (dk_at dksX7_look_1 0 rfl rfl)
theorem dX7_look_25 : decode cX7_look 25 = .ok (.invokevirtual 453, 3) := dk_182 1 197 (dk_at dksX7_look_1 1 rfl rfl)
theorem dX7_look_28 : decode cX7_look 28 = .ok (.istore 4, 2) := dk_54 4 (dk_at dksX7_look_1 4 rfl rfl)
theorem dX7_look_30 : decode cX7_look 30 = .ok (.iload 4, 2) := dk_21 4 (dk_at dksX7_look_1 6 rfl rfl)
theorem dX7_look_32 : decode cX7_look 32 = .ok (.iload_n 2, 1) := dk_28 (dk_at dksX7_look_1 8 rfl rfl)
theorem dX7_look_33 : decode cX7_look 33 = .ok (.if_icmp .gt 6, 3) := dk_163 0 6 (dk_at dksX7_look_1 9 rfl rfl)
theorem dX7_look_36 : decode cX7_look 36 = .ok (.goto 8, 3) := dk_167 0 8 (dk_at dksX7_look_1 12 rfl rfl)
theorem dX7_look_39 : decode cX7_look 39 = .ok (.iload_n 3, 1) := dk_29 (dk_at dksX7_look_1 15 rfl rfl)
theorem dX7_look_40 : decode cX7_look 40 = .ok (.istore_n 1, 1) := dk_60 (dk_at dksX7_look_1 16 rfl rfl)
theorem dX7_look_41 : decode cX7_look 41 = .ok (.iload 4, 2) := dk_21 4 (dk_at dksX7_look_1 17 rfl rfl)
theorem dX7_look_43 : decode cX7_look 43 = .ok (.istore_n 2, 1) := dk_61 (dk_at dksX7_look_1 19 rfl rfl)
theorem dX7_look_44 : decode cX7_look 44 = .ok (.iinc 3 1, 3) := dk_132 3 1 (dk_at dksX7_look_1 20 rfl rfl)
theorem dX7_look_47 : decode cX7_look 47 = .ok (.goto (-32), 3) := dk_167 255 224 (dk_at dksX7_look_2 0 rfl rfl)
theorem dX7_look_50 : decode cX7_look 50 = .ok (.iload_n 1, 1) := dk_27 (dk_at dksX7_look_2 3 rfl rfl)
theorem dX7_look_51 : decode cX7_look 51 = .ok (.ireturn, 1) := dk_172 (dk_at dksX7_look_2 4 rfl rfl)
abbrev cX7_unlike : ByteArray := prog_20_method_104_code
def yX7_unlike : MethodName := ⟨RX7, "unlike", "(I)I"⟩
def dkwX7_unlike_5 : List UInt8 := [96, 61, 132, 3, 1, 167, 255, 136, 28, 172]
abbrev dktX7_unlike_5 : List UInt8 := dkwX7_unlike_5 ++ []
def dkwX7_unlike_4 : List UInt8 := [4, 167, 0, 4, 3, 54, 6, 132, 7, 1, 167, 255, 219, 28, 21, 6, 153, 0, 7, 4, 167, 0, 4, 3]
abbrev dktX7_unlike_4 : List UInt8 := dkwX7_unlike_4 ++ dktX7_unlike_5
def dkwX7_unlike_3 : List UInt8 := [162, 0, 37, 21, 6, 153, 0, 32, 42, 180, 0, 125, 21, 7, 46, 42, 180, 0, 125, 29, 46, 159, 0, 7]
abbrev dktX7_unlike_3 : List UInt8 := dkwX7_unlike_3 ++ dktX7_unlike_4
def dkwX7_unlike_2 : List UInt8 := [27, 182, 1, 58, 79, 42, 180, 0, 79, 21, 4, 21, 5, 79, 4, 54, 6, 3, 54, 7, 21, 7, 29]
abbrev dktX7_unlike_2 : List UInt8 := dkwX7_unlike_2 ++ dktX7_unlike_3
def dkwX7_unlike_1 : List UInt8 := [21, 4, 46, 54, 5, 42, 180, 0, 79, 21, 4, 42, 180, 0, 122, 29, 46, 79, 42, 180, 0, 125, 29, 42]
abbrev dktX7_unlike_1 : List UInt8 := dkwX7_unlike_1 ++ dktX7_unlike_2
def dkwX7_unlike_0 : List UInt8 := [3, 61, 3, 62, 29, 42, 180, 1, 186, 162, 0, 118, 42, 180, 0, 119, 29, 46, 54, 4, 42, 180, 0, 79]
abbrev dktX7_unlike_0 : List UInt8 := dkwX7_unlike_0 ++ dktX7_unlike_1
theorem dksX7_unlike_0 : cX7_unlike.data.toList.drop 0 = dktX7_unlike_0 := by decide +kernel
theorem dksX7_unlike_1 : cX7_unlike.data.toList.drop 24 = dktX7_unlike_1 := dk_seg dksX7_unlike_0 24 rfl rfl
theorem dksX7_unlike_2 : cX7_unlike.data.toList.drop 48 = dktX7_unlike_2 := dk_seg dksX7_unlike_1 24 rfl rfl
theorem dksX7_unlike_3 : cX7_unlike.data.toList.drop 71 = dktX7_unlike_3 := dk_seg dksX7_unlike_2 23 rfl rfl
theorem dksX7_unlike_4 : cX7_unlike.data.toList.drop 95 = dktX7_unlike_4 := dk_seg dksX7_unlike_3 24 rfl rfl
theorem dksX7_unlike_5 : cX7_unlike.data.toList.drop 119 = dktX7_unlike_5 := dk_seg dksX7_unlike_4 24 rfl rfl
theorem dX7_unlike_0 : decode cX7_unlike 0 = .ok (.iconst 0, 1) := dk_3 (dk_at dksX7_unlike_0 0 rfl rfl)
theorem dX7_unlike_1 : decode cX7_unlike 1 = .ok (.istore_n 2, 1) := dk_61 (dk_at dksX7_unlike_0 1 rfl rfl)
theorem dX7_unlike_2 : decode cX7_unlike 2 = .ok (.iconst 0, 1) := dk_3 (dk_at dksX7_unlike_0 2 rfl rfl)
theorem dX7_unlike_3 : decode cX7_unlike 3 = .ok (.istore_n 3, 1) := dk_62 (dk_at dksX7_unlike_0 3 rfl rfl)
theorem dX7_unlike_4 : decode cX7_unlike 4 = .ok (.iload_n 3, 1) := dk_29 (dk_at dksX7_unlike_0 4 rfl rfl)
theorem dX7_unlike_5 : decode cX7_unlike 5 = .ok (.aload_n 0, 1) := dk_42 (dk_at dksX7_unlike_0 5 rfl rfl)
theorem dX7_unlike_6 : decode cX7_unlike 6 = .ok (.getfield 442, 3) := dk_180 1 186 (dk_at dksX7_unlike_0 6 rfl rfl)
theorem dX7_unlike_9 : decode cX7_unlike 9 = .ok (.if_icmp .ge 118, 3) := dk_162 0 118 (dk_at dksX7_unlike_0 9 rfl rfl)
theorem dX7_unlike_12 : decode cX7_unlike 12 = .ok (.aload_n 0, 1) := dk_42 (dk_at dksX7_unlike_0 12 rfl rfl)
theorem dX7_unlike_13 : decode cX7_unlike 13 = .ok (.getfield 119, 3) := dk_180 0 119 (dk_at dksX7_unlike_0 13 rfl rfl)
theorem dX7_unlike_16 : decode cX7_unlike 16 = .ok (.iload_n 3, 1) := dk_29 (dk_at dksX7_unlike_0 16 rfl rfl)
theorem dX7_unlike_17 : decode cX7_unlike 17 = .ok (.iaload, 1) := dk_46 (dk_at dksX7_unlike_0 17 rfl rfl)
theorem dX7_unlike_18 : decode cX7_unlike 18 = .ok (.istore 4, 2) := dk_54 4 (dk_at dksX7_unlike_0 18 rfl rfl)
theorem dX7_unlike_20 : decode cX7_unlike 20 = .ok (.aload_n 0, 1) := dk_42 (dk_at dksX7_unlike_0 20 rfl rfl)
theorem dX7_unlike_21 : decode cX7_unlike 21 = .ok (.getfield 79, 3) := dk_180 0 79 (dk_at dksX7_unlike_0 21 rfl rfl)
theorem dX7_unlike_24 : decode cX7_unlike 24 = .ok (.iload 4, 2) := dk_21 4 (dk_at dksX7_unlike_1 0 rfl rfl)
theorem dX7_unlike_26 : decode cX7_unlike 26 = .ok (.iaload, 1) := dk_46 (dk_at dksX7_unlike_1 2 rfl rfl)
theorem dX7_unlike_27 : decode cX7_unlike 27 = .ok (.istore 5, 2) := dk_54 5 (dk_at dksX7_unlike_1 3 rfl rfl)
theorem dX7_unlike_29 : decode cX7_unlike 29 = .ok (.aload_n 0, 1) := dk_42 (dk_at dksX7_unlike_1 5 rfl rfl)
theorem dX7_unlike_30 : decode cX7_unlike 30 = .ok (.getfield 79, 3) := dk_180 0 79 (dk_at dksX7_unlike_1 6 rfl rfl)
theorem dX7_unlike_33 : decode cX7_unlike 33 = .ok (.iload 4, 2) := dk_21 4 (dk_at dksX7_unlike_1 9 rfl rfl)
theorem dX7_unlike_35 : decode cX7_unlike 35 = .ok (.aload_n 0, 1) := dk_42 (dk_at dksX7_unlike_1 11 rfl rfl)
theorem dX7_unlike_36 : decode cX7_unlike 36 = .ok (.getfield 122, 3) := dk_180 0 122 (dk_at dksX7_unlike_1 12 rfl rfl)
theorem dX7_unlike_39 : decode cX7_unlike 39 = .ok (.iload_n 3, 1) := dk_29 (dk_at dksX7_unlike_1 15 rfl rfl)
theorem dX7_unlike_40 : decode cX7_unlike 40 = .ok (.iaload, 1) := dk_46 (dk_at dksX7_unlike_1 16 rfl rfl)
theorem dX7_unlike_41 : decode cX7_unlike 41 = .ok (.iastore, 1) := dk_79 (dk_at dksX7_unlike_1 17 rfl rfl)
theorem dX7_unlike_42 : decode cX7_unlike 42 = .ok (.aload_n 0, 1) := dk_42 (dk_at dksX7_unlike_1 18 rfl rfl)
theorem dX7_unlike_43 : decode cX7_unlike 43 = .ok (.getfield 125, 3) := dk_180 0 125 (dk_at dksX7_unlike_1 19 rfl rfl)
theorem dX7_unlike_46 : decode cX7_unlike 46 = .ok (.iload_n 3, 1) := dk_29 (dk_at dksX7_unlike_1 22 rfl rfl)
theorem dX7_unlike_47 : decode cX7_unlike 47 = .ok (.aload_n 0, 1) := dk_42 (dk_at dksX7_unlike_1 23 rfl rfl)
theorem dX7_unlike_48 : decode cX7_unlike 48 = .ok (.iload_n 1, 1) := dk_27 (dk_at dksX7_unlike_2 0 rfl rfl)
theorem dX7_unlike_49 : decode cX7_unlike 49 = .ok (.invokevirtual 314, 3) := dk_182 1 58 (dk_at dksX7_unlike_2 1 rfl rfl)
theorem dX7_unlike_52 : decode cX7_unlike 52 = .ok (.iastore, 1) := dk_79 (dk_at dksX7_unlike_2 4 rfl rfl)
theorem dX7_unlike_53 : decode cX7_unlike 53 = .ok (.aload_n 0, 1) := dk_42 (dk_at dksX7_unlike_2 5 rfl rfl)
theorem dX7_unlike_54 : decode cX7_unlike 54 = .ok (.getfield 79, 3) := dk_180 0 79 (dk_at dksX7_unlike_2 6 rfl rfl)
theorem dX7_unlike_57 : decode cX7_unlike 57 = .ok (.iload 4, 2) := dk_21 4 (dk_at dksX7_unlike_2 9 rfl rfl)
theorem dX7_unlike_59 : decode cX7_unlike 59 = .ok (.iload 5, 2) := dk_21 5 (dk_at dksX7_unlike_2 11 rfl rfl)
theorem dX7_unlike_61 : decode cX7_unlike 61 = .ok (.iastore, 1) := dk_79 (dk_at dksX7_unlike_2 13 rfl rfl)
theorem dX7_unlike_62 : decode cX7_unlike 62 = .ok (.iconst 1, 1) := dk_4 (dk_at dksX7_unlike_2 14 rfl rfl)
theorem dX7_unlike_63 : decode cX7_unlike 63 = .ok (.istore 6, 2) := dk_54 6 (dk_at dksX7_unlike_2 15 rfl rfl)
theorem dX7_unlike_65 : decode cX7_unlike 65 = .ok (.iconst 0, 1) := dk_3 (dk_at dksX7_unlike_2 17 rfl rfl)
theorem dX7_unlike_66 : decode cX7_unlike 66 = .ok (.istore 7, 2) := dk_54 7 (dk_at dksX7_unlike_2 18 rfl rfl)
theorem dX7_unlike_68 : decode cX7_unlike 68 = .ok (.iload 7, 2) := dk_21 7 (dk_at dksX7_unlike_2 20 rfl rfl)
theorem dX7_unlike_70 : decode cX7_unlike 70 = .ok (.iload_n 3, 1) := dk_29 (dk_at dksX7_unlike_2 22 rfl rfl)
theorem dX7_unlike_71 : decode cX7_unlike 71 = .ok (.if_icmp .ge 37, 3) := dk_162 0 37 (dk_at dksX7_unlike_3 0 rfl rfl)
theorem dX7_unlike_74 : decode cX7_unlike 74 = .ok (.iload 6, 2) := dk_21 6 (dk_at dksX7_unlike_3 3 rfl rfl)
theorem dX7_unlike_76 : decode cX7_unlike 76 = .ok (.ifCond .eq 32, 3) := dk_153 0 32 (dk_at dksX7_unlike_3 5 rfl rfl)
theorem dX7_unlike_79 : decode cX7_unlike 79 = .ok (.aload_n 0, 1) := dk_42 (dk_at dksX7_unlike_3 8 rfl rfl)
theorem dX7_unlike_80 : decode cX7_unlike 80 = .ok (.getfield 125, 3) := dk_180 0 125 (dk_at dksX7_unlike_3 9 rfl rfl)
theorem dX7_unlike_83 : decode cX7_unlike 83 = .ok (.iload 7, 2) := dk_21 7 (dk_at dksX7_unlike_3 12 rfl rfl)
theorem dX7_unlike_85 : decode cX7_unlike 85 = .ok (.iaload, 1) := dk_46 (dk_at dksX7_unlike_3 14 rfl rfl)
theorem dX7_unlike_86 : decode cX7_unlike 86 = .ok (.aload_n 0, 1) := dk_42 (dk_at dksX7_unlike_3 15 rfl rfl)
theorem dX7_unlike_87 : decode cX7_unlike 87 = .ok (.getfield 125, 3) := dk_180 0 125 (dk_at dksX7_unlike_3 16 rfl rfl)
theorem dX7_unlike_90 : decode cX7_unlike 90 = .ok (.iload_n 3, 1) := dk_29 (dk_at dksX7_unlike_3 19 rfl rfl)
theorem dX7_unlike_91 : decode cX7_unlike 91 = .ok (.iaload, 1) := dk_46 (dk_at dksX7_unlike_3 20 rfl rfl)
theorem dX7_unlike_92 : decode cX7_unlike 92 = .ok (.if_icmp .eq 7, 3) := dk_159 0 7 (dk_at dksX7_unlike_3 21 rfl rfl)
theorem dX7_unlike_95 : decode cX7_unlike 95 = .ok (.iconst 1, 1) := dk_4 (dk_at dksX7_unlike_4 0 rfl rfl)
theorem dX7_unlike_96 : decode cX7_unlike 96 = .ok (.goto 4, 3) := dk_167 0 4 (dk_at dksX7_unlike_4 1 rfl rfl)
theorem dX7_unlike_99 : decode cX7_unlike 99 = .ok (.iconst 0, 1) := dk_3 (dk_at dksX7_unlike_4 4 rfl rfl)
theorem dX7_unlike_100 : decode cX7_unlike 100 = .ok (.istore 6, 2) := dk_54 6 (dk_at dksX7_unlike_4 5 rfl rfl)
theorem dX7_unlike_102 : decode cX7_unlike 102 = .ok (.iinc 7 1, 3) := dk_132 7 1 (dk_at dksX7_unlike_4 7 rfl rfl)
theorem dX7_unlike_105 : decode cX7_unlike 105 = .ok (.goto (-37), 3) := dk_167 255 219 (dk_at dksX7_unlike_4 10 rfl rfl)
theorem dX7_unlike_108 : decode cX7_unlike 108 = .ok (.iload_n 2, 1) := dk_28 (dk_at dksX7_unlike_4 13 rfl rfl)
theorem dX7_unlike_109 : decode cX7_unlike 109 = .ok (.iload 6, 2) := dk_21 6 (dk_at dksX7_unlike_4 14 rfl rfl)
theorem dX7_unlike_111 : decode cX7_unlike 111 = .ok (.ifCond .eq 7, 3) := dk_153 0 7 (dk_at dksX7_unlike_4 16 rfl rfl)
theorem dX7_unlike_114 : decode cX7_unlike 114 = .ok (.iconst 1, 1) := dk_4 (dk_at dksX7_unlike_4 19 rfl rfl)
theorem dX7_unlike_115 : decode cX7_unlike 115 = .ok (.goto 4, 3) := dk_167 0 4 (dk_at dksX7_unlike_4 20 rfl rfl)
theorem dX7_unlike_118 : decode cX7_unlike 118 = .ok (.iconst 0, 1) := dk_3 (dk_at dksX7_unlike_4 23 rfl rfl)
theorem dX7_unlike_119 : decode cX7_unlike 119 = .ok (.iadd, 1) := dk_96 (dk_at dksX7_unlike_5 0 rfl rfl)
theorem dX7_unlike_120 : decode cX7_unlike 120 = .ok (.istore_n 2, 1) := dk_61 (dk_at dksX7_unlike_5 1 rfl rfl)
theorem dX7_unlike_121 : decode cX7_unlike 121 = .ok (.iinc 3 1, 3) := dk_132 3 1 (dk_at dksX7_unlike_5 2 rfl rfl)
theorem dX7_unlike_124 : decode cX7_unlike 124 = .ok (.goto (-120), 3) := dk_167 255 136 (dk_at dksX7_unlike_5 5 rfl rfl)
theorem dX7_unlike_127 : decode cX7_unlike 127 = .ok (.iload_n 2, 1) := dk_28 (dk_at dksX7_unlike_5 8 rfl rfl)
theorem dX7_unlike_128 : decode cX7_unlike 128 = .ok (.ireturn, 1) := dk_172 (dk_at dksX7_unlike_5 9 rfl rfl)
abbrev cX7_forget : ByteArray := prog_20_method_106_code
def yX7_forget : MethodName := ⟨RX7, "forget", "()V"⟩
def dkwX7_forget_0 : List UInt8 := [42, 3, 181, 0, 143, 42, 3, 181, 1, 32, 177]
abbrev dktX7_forget_0 : List UInt8 := dkwX7_forget_0 ++ []
theorem dksX7_forget_0 : cX7_forget.data.toList.drop 0 = dktX7_forget_0 := by decide +kernel
theorem dX7_forget_0 : decode cX7_forget 0 = .ok (.aload_n 0, 1) := dk_42 (dk_at dksX7_forget_0 0 rfl rfl)
theorem dX7_forget_1 : decode cX7_forget 1 = .ok (.iconst 0, 1) := dk_3 (dk_at dksX7_forget_0 1 rfl rfl)
theorem dX7_forget_2 : decode cX7_forget 2 = .ok (.putfield 143, 3) := dk_181 0 143 (dk_at dksX7_forget_0 2 rfl rfl)
theorem dX7_forget_5 : decode cX7_forget 5 = .ok (.aload_n 0, 1) := dk_42 (dk_at dksX7_forget_0 5 rfl rfl)
theorem dX7_forget_6 : decode cX7_forget 6 = .ok (.iconst 0, 1) := dk_3 (dk_at dksX7_forget_0 6 rfl rfl)
theorem dX7_forget_7 : decode cX7_forget 7 = .ok (.putfield 288, 3) := dk_181 1 32 (dk_at dksX7_forget_0 7 rfl rfl)
theorem dX7_forget_10 : decode cX7_forget 10 = .ok (.return_, 1) := dk_177 (dk_at dksX7_forget_0 10 rfl rfl)
abbrev cX7_game : ByteArray := prog_20_method_109_code
def yX7_game : MethodName := ⟨RX7, "game", "(I)I"⟩
def dkwX7_game_3 : List UInt8 := [167, 0, 4, 29, 62, 132, 4, 1, 167, 255, 203, 27, 154, 0, 7, 28, 167, 0, 4, 29, 172]
abbrev dktX7_game_3 : List UInt8 := dkwX7_game_3 ++ []
def dkwX7_game_2 : List UInt8 := [21, 4, 16, 10, 112, 182, 1, 203, 154, 0, 6, 167, 0, 18, 132, 2, 1, 29, 2, 160, 0, 8, 21, 4]
abbrev dktX7_game_2 : List UInt8 := dkwX7_game_2 ++ dktX7_game_3
def dkwX7_game_1 : List UInt8 := [3, 54, 4, 21, 4, 16, 100, 162, 0, 52, 42, 180, 0, 150, 4, 164, 0, 44, 42, 21, 4, 16, 10, 108]
abbrev dktX7_game_1 : List UInt8 := dkwX7_game_1 ++ dktX7_game_2
def dkwX7_game_0 : List UInt8 := [42, 3, 181, 0, 143, 27, 155, 0, 8, 27, 4, 164, 0, 9, 42, 4, 182, 1, 13, 172, 3, 61, 2, 62]
abbrev dktX7_game_0 : List UInt8 := dkwX7_game_0 ++ dktX7_game_1
theorem dksX7_game_0 : cX7_game.data.toList.drop 0 = dktX7_game_0 := by decide +kernel
theorem dksX7_game_1 : cX7_game.data.toList.drop 24 = dktX7_game_1 := dk_seg dksX7_game_0 24 rfl rfl
theorem dksX7_game_2 : cX7_game.data.toList.drop 48 = dktX7_game_2 := dk_seg dksX7_game_1 24 rfl rfl
theorem dksX7_game_3 : cX7_game.data.toList.drop 72 = dktX7_game_3 := dk_seg dksX7_game_2 24 rfl rfl
theorem dX7_game_0 : decode cX7_game 0 = .ok (.aload_n 0, 1) := dk_42 (dk_at dksX7_game_0 0 rfl rfl)
theorem dX7_game_1 : decode cX7_game 1 = .ok (.iconst 0, 1) := dk_3 (dk_at dksX7_game_0 1 rfl rfl)
theorem dX7_game_2 : decode cX7_game 2 = .ok (.putfield 143, 3) := dk_181 0 143 (dk_at dksX7_game_0 2 rfl rfl)
theorem dX7_game_5 : decode cX7_game 5 = .ok (.iload_n 1, 1) := dk_27 (dk_at dksX7_game_0 5 rfl rfl)
theorem dX7_game_6 : decode cX7_game 6 = .ok (.ifCond .lt 8, 3) := dk_155 0 8 (dk_at dksX7_game_0 6 rfl rfl)
theorem dX7_game_9 : decode cX7_game 9 = .ok (.iload_n 1, 1) := dk_27 (dk_at dksX7_game_0 9 rfl rfl)
theorem dX7_game_10 : decode cX7_game 10 = .ok (.iconst 1, 1) := dk_4 (dk_at dksX7_game_0 10 rfl rfl)
theorem dX7_game_11 : decode cX7_game 11 = .ok (.if_icmp .le 9, 3) := dk_164 0 9 (dk_at dksX7_game_0 11 rfl rfl)
theorem dX7_game_14 : decode cX7_game 14 = .ok (.aload_n 0, 1) := dk_42 (dk_at dksX7_game_0 14 rfl rfl)
theorem dX7_game_15 : decode cX7_game 15 = .ok (.iconst 1, 1) := dk_4 (dk_at dksX7_game_0 15 rfl rfl)
theorem dX7_game_16 : decode cX7_game 16 = .ok (.invokevirtual 269, 3) := dk_182 1 13 (dk_at dksX7_game_0 16 rfl rfl)
theorem dX7_game_19 : decode cX7_game 19 = .ok (.ireturn, 1) := dk_172 (dk_at dksX7_game_0 19 rfl rfl)
theorem dX7_game_20 : decode cX7_game 20 = .ok (.iconst 0, 1) := dk_3 (dk_at dksX7_game_0 20 rfl rfl)
theorem dX7_game_21 : decode cX7_game 21 = .ok (.istore_n 2, 1) := dk_61 (dk_at dksX7_game_0 21 rfl rfl)
theorem dX7_game_22 : decode cX7_game 22 = .ok (.iconst (-1), 1) := dk_2 (dk_at dksX7_game_0 22 rfl rfl)
theorem dX7_game_23 : decode cX7_game 23 = .ok (.istore_n 3, 1) := dk_62 (dk_at dksX7_game_0 23 rfl rfl)
theorem dX7_game_24 : decode cX7_game 24 = .ok (.iconst 0, 1) := dk_3 (dk_at dksX7_game_1 0 rfl rfl)
theorem dX7_game_25 : decode cX7_game 25 = .ok (.istore 4, 2) := dk_54 4 (dk_at dksX7_game_1 1 rfl rfl)
theorem dX7_game_27 : decode cX7_game 27 = .ok (.iload 4, 2) := dk_21 4 (dk_at dksX7_game_1 3 rfl rfl)
theorem dX7_game_29 : decode cX7_game 29 = .ok (.bipush 100, 2) := dk_16 100 (dk_at dksX7_game_1 5 rfl rfl)
theorem dX7_game_31 : decode cX7_game 31 = .ok (.if_icmp .ge 52, 3) := dk_162 0 52 (dk_at dksX7_game_1 7 rfl rfl)
theorem dX7_game_34 : decode cX7_game 34 = .ok (.aload_n 0, 1) := dk_42 (dk_at dksX7_game_1 10 rfl rfl)
theorem dX7_game_35 : decode cX7_game 35 = .ok (.getfield 150, 3) := dk_180 0 150 (dk_at dksX7_game_1 11 rfl rfl)
theorem dX7_game_38 : decode cX7_game 38 = .ok (.iconst 1, 1) := dk_4 (dk_at dksX7_game_1 14 rfl rfl)
theorem dX7_game_39 : decode cX7_game 39 = .ok (.if_icmp .le 44, 3) := dk_164 0 44 (dk_at dksX7_game_1 15 rfl rfl)
theorem dX7_game_42 : decode cX7_game 42 = .ok (.aload_n 0, 1) := dk_42 (dk_at dksX7_game_1 18 rfl rfl)
theorem dX7_game_43 : decode cX7_game 43 = .ok (.iload 4, 2) := dk_21 4 (dk_at dksX7_game_1 19 rfl rfl)
theorem dX7_game_45 : decode cX7_game 45 = .ok (.bipush 10, 2) := dk_16 10 (dk_at dksX7_game_1 21 rfl rfl)
theorem dX7_game_47 : decode cX7_game 47 = .ok (.idiv, 1) := dk_108 (dk_at dksX7_game_1 23 rfl rfl)
theorem dX7_game_48 : decode cX7_game 48 = .ok (.iload 4, 2) := dk_21 4 (dk_at dksX7_game_2 0 rfl rfl)
theorem dX7_game_50 : decode cX7_game 50 = .ok (.bipush 10, 2) := dk_16 10 (dk_at dksX7_game_2 2 rfl rfl)
theorem dX7_game_52 : decode cX7_game 52 = .ok (.irem, 1) := dk_112 (dk_at dksX7_game_2 4 rfl rfl)
theorem dX7_game_53 : decode cX7_game 53 = .ok (.invokevirtual 459, 3) := dk_182 1 203 (dk_at dksX7_game_2 5 rfl rfl)
theorem dX7_game_56 : decode cX7_game 56 = .ok (.ifCond .ne 6, 3) := dk_154 0 6 (dk_at dksX7_game_2 8 rfl rfl)
theorem dX7_game_59 : decode cX7_game 59 = .ok (.goto 18, 3) := dk_167 0 18 (dk_at dksX7_game_2 11 rfl rfl)
theorem dX7_game_62 : decode cX7_game 62 = .ok (.iinc 2 1, 3) := dk_132 2 1 (dk_at dksX7_game_2 14 rfl rfl)
theorem dX7_game_65 : decode cX7_game 65 = .ok (.iload_n 3, 1) := dk_29 (dk_at dksX7_game_2 17 rfl rfl)
theorem dX7_game_66 : decode cX7_game 66 = .ok (.iconst (-1), 1) := dk_2 (dk_at dksX7_game_2 18 rfl rfl)
theorem dX7_game_67 : decode cX7_game 67 = .ok (.if_icmp .ne 8, 3) := dk_160 0 8 (dk_at dksX7_game_2 19 rfl rfl)
theorem dX7_game_70 : decode cX7_game 70 = .ok (.iload 4, 2) := dk_21 4 (dk_at dksX7_game_2 22 rfl rfl)
theorem dX7_game_72 : decode cX7_game 72 = .ok (.goto 4, 3) := dk_167 0 4 (dk_at dksX7_game_3 0 rfl rfl)
theorem dX7_game_75 : decode cX7_game 75 = .ok (.iload_n 3, 1) := dk_29 (dk_at dksX7_game_3 3 rfl rfl)
theorem dX7_game_76 : decode cX7_game 76 = .ok (.istore_n 3, 1) := dk_62 (dk_at dksX7_game_3 4 rfl rfl)
theorem dX7_game_77 : decode cX7_game 77 = .ok (.iinc 4 1, 3) := dk_132 4 1 (dk_at dksX7_game_3 5 rfl rfl)
theorem dX7_game_80 : decode cX7_game 80 = .ok (.goto (-53), 3) := dk_167 255 203 (dk_at dksX7_game_3 8 rfl rfl)
theorem dX7_game_83 : decode cX7_game 83 = .ok (.iload_n 1, 1) := dk_27 (dk_at dksX7_game_3 11 rfl rfl)
theorem dX7_game_84 : decode cX7_game 84 = .ok (.ifCond .ne 7, 3) := dk_154 0 7 (dk_at dksX7_game_3 12 rfl rfl)
theorem dX7_game_87 : decode cX7_game 87 = .ok (.iload_n 2, 1) := dk_28 (dk_at dksX7_game_3 15 rfl rfl)
theorem dX7_game_88 : decode cX7_game 88 = .ok (.goto 4, 3) := dk_167 0 4 (dk_at dksX7_game_3 16 rfl rfl)
theorem dX7_game_91 : decode cX7_game 91 = .ok (.iload_n 3, 1) := dk_29 (dk_at dksX7_game_3 19 rfl rfl)
theorem dX7_game_92 : decode cX7_game 92 = .ok (.ireturn, 1) := dk_172 (dk_at dksX7_game_3 20 rfl rfl)
abbrev cX7_rests : ByteArray := prog_20_method_108_code
def yX7_rests : MethodName := ⟨RX7, "rests", "(II)Z"⟩
def dkwX7_rests_2 : List UInt8 := [132, 3, 1, 167, 255, 211, 4, 172]
abbrev dktX7_rests_2 : List UInt8 := dkwX7_rests_2 ++ []
def dkwX7_rests_1 : List UInt8 := [163, 0, 20, 42, 29, 27, 29, 182, 1, 200, 42, 28, 27, 28, 182, 1, 200, 164, 0, 5, 3, 172]
abbrev dktX7_rests_1 : List UInt8 := dkwX7_rests_1 ++ dktX7_rests_2
def dkwX7_rests_0 : List UInt8 := [3, 62, 29, 16, 10, 162, 0, 45, 42, 29, 29, 28, 182, 1, 200, 42, 27, 27, 28, 182, 1, 200]
abbrev dktX7_rests_0 : List UInt8 := dkwX7_rests_0 ++ dktX7_rests_1
theorem dksX7_rests_0 : cX7_rests.data.toList.drop 0 = dktX7_rests_0 := by decide +kernel
theorem dksX7_rests_1 : cX7_rests.data.toList.drop 22 = dktX7_rests_1 := dk_seg dksX7_rests_0 22 rfl rfl
theorem dksX7_rests_2 : cX7_rests.data.toList.drop 44 = dktX7_rests_2 := dk_seg dksX7_rests_1 22 rfl rfl
theorem dX7_rests_0 : decode cX7_rests 0 = .ok (.iconst 0, 1) := dk_3 (dk_at dksX7_rests_0 0 rfl rfl)
theorem dX7_rests_1 : decode cX7_rests 1 = .ok (.istore_n 3, 1) := dk_62 (dk_at dksX7_rests_0 1 rfl rfl)
theorem dX7_rests_2 : decode cX7_rests 2 = .ok (.iload_n 3, 1) := dk_29 (dk_at dksX7_rests_0 2 rfl rfl)
theorem dX7_rests_3 : decode cX7_rests 3 = .ok (.bipush 10, 2) := dk_16 10 (dk_at dksX7_rests_0 3 rfl rfl)
theorem dX7_rests_5 : decode cX7_rests 5 = .ok (.if_icmp .ge 45, 3) := dk_162 0 45 (dk_at dksX7_rests_0 5 rfl rfl)
theorem dX7_rests_8 : decode cX7_rests 8 = .ok (.aload_n 0, 1) := dk_42 (dk_at dksX7_rests_0 8 rfl rfl)
theorem dX7_rests_9 : decode cX7_rests 9 = .ok (.iload_n 3, 1) := dk_29 (dk_at dksX7_rests_0 9 rfl rfl)
theorem dX7_rests_10 : decode cX7_rests 10 = .ok (.iload_n 3, 1) := dk_29 (dk_at dksX7_rests_0 10 rfl rfl)
theorem dX7_rests_11 : decode cX7_rests 11 = .ok (.iload_n 2, 1) := dk_28 (dk_at dksX7_rests_0 11 rfl rfl)
theorem dX7_rests_12 : decode cX7_rests 12 = .ok (.invokevirtual 456, 3) := dk_182 1 200 (dk_at dksX7_rests_0 12 rfl rfl)
theorem dX7_rests_15 : decode cX7_rests 15 = .ok (.aload_n 0, 1) := dk_42 (dk_at dksX7_rests_0 15 rfl rfl)
theorem dX7_rests_16 : decode cX7_rests 16 = .ok (.iload_n 1, 1) := dk_27 (dk_at dksX7_rests_0 16 rfl rfl)
theorem dX7_rests_17 : decode cX7_rests 17 = .ok (.iload_n 1, 1) := dk_27 (dk_at dksX7_rests_0 17 rfl rfl)
theorem dX7_rests_18 : decode cX7_rests 18 = .ok (.iload_n 2, 1) := dk_28 (dk_at dksX7_rests_0 18 rfl rfl)
theorem dX7_rests_19 : decode cX7_rests 19 = .ok (.invokevirtual 456, 3) := dk_182 1 200 (dk_at dksX7_rests_0 19 rfl rfl)
theorem dX7_rests_22 : decode cX7_rests 22 = .ok (.if_icmp .gt 20, 3) := dk_163 0 20 (dk_at dksX7_rests_1 0 rfl rfl)
theorem dX7_rests_25 : decode cX7_rests 25 = .ok (.aload_n 0, 1) := dk_42 (dk_at dksX7_rests_1 3 rfl rfl)
theorem dX7_rests_26 : decode cX7_rests 26 = .ok (.iload_n 3, 1) := dk_29 (dk_at dksX7_rests_1 4 rfl rfl)
theorem dX7_rests_27 : decode cX7_rests 27 = .ok (.iload_n 1, 1) := dk_27 (dk_at dksX7_rests_1 5 rfl rfl)
theorem dX7_rests_28 : decode cX7_rests 28 = .ok (.iload_n 3, 1) := dk_29 (dk_at dksX7_rests_1 6 rfl rfl)
theorem dX7_rests_29 : decode cX7_rests 29 = .ok (.invokevirtual 456, 3) := dk_182 1 200 (dk_at dksX7_rests_1 7 rfl rfl)
theorem dX7_rests_32 : decode cX7_rests 32 = .ok (.aload_n 0, 1) := dk_42 (dk_at dksX7_rests_1 10 rfl rfl)
theorem dX7_rests_33 : decode cX7_rests 33 = .ok (.iload_n 2, 1) := dk_28 (dk_at dksX7_rests_1 11 rfl rfl)
theorem dX7_rests_34 : decode cX7_rests 34 = .ok (.iload_n 1, 1) := dk_27 (dk_at dksX7_rests_1 12 rfl rfl)
theorem dX7_rests_35 : decode cX7_rests 35 = .ok (.iload_n 2, 1) := dk_28 (dk_at dksX7_rests_1 13 rfl rfl)
theorem dX7_rests_36 : decode cX7_rests 36 = .ok (.invokevirtual 456, 3) := dk_182 1 200 (dk_at dksX7_rests_1 14 rfl rfl)
theorem dX7_rests_39 : decode cX7_rests 39 = .ok (.if_icmp .le 5, 3) := dk_164 0 5 (dk_at dksX7_rests_1 17 rfl rfl)
theorem dX7_rests_42 : decode cX7_rests 42 = .ok (.iconst 0, 1) := dk_3 (dk_at dksX7_rests_1 20 rfl rfl)
theorem dX7_rests_43 : decode cX7_rests 43 = .ok (.ireturn, 1) := dk_172 (dk_at dksX7_rests_1 21 rfl rfl)
theorem dX7_rests_44 : decode cX7_rests 44 = .ok (.iinc 3 1, 3) := dk_132 3 1 (dk_at dksX7_rests_2 0 rfl rfl)
theorem dX7_rests_47 : decode cX7_rests 47 = .ok (.goto (-45), 3) := dk_167 255 211 (dk_at dksX7_rests_2 3 rfl rfl)
theorem dX7_rests_50 : decode cX7_rests 50 = .ok (.iconst 1, 1) := dk_4 (dk_at dksX7_rests_2 6 rfl rfl)
theorem dX7_rests_51 : decode cX7_rests 51 = .ok (.ireturn, 1) := dk_172 (dk_at dksX7_rests_2 7 rfl rfl)
abbrev cX7_gain : ByteArray := prog_20_method_107_code
def yX7_gain : MethodName := ⟨RX7, "gain", "(III)I"⟩
def dkwX7_gain_3 : List UInt8 := [29, 100, 79, 21, 6, 153, 0, 7, 27, 167, 0, 7, 27, 16, 20, 100, 172]
abbrev dktX7_gain_3 : List UInt8 := dkwX7_gain_3 ++ []
def dkwX7_gain_2 : List UInt8 := [182, 1, 70, 54, 6, 42, 180, 0, 73, 21, 4, 92, 46, 28, 100, 79, 42, 180, 0, 73, 21, 5, 92, 46]
abbrev dktX7_gain_2 : List UInt8 := dkwX7_gain_2 ++ dktX7_gain_3
def dkwX7_gain_1 : List UInt8 := [180, 0, 73, 21, 4, 92, 46, 28, 96, 79, 42, 180, 0, 73, 21, 5, 92, 46, 29, 96, 79, 42]
abbrev dktX7_gain_1 : List UInt8 := dkwX7_gain_1 ++ dktX7_gain_2
def dkwX7_gain_0 : List UInt8 := [42, 180, 0, 70, 3, 46, 54, 4, 42, 180, 0, 70, 42, 180, 0, 150, 4, 100, 46, 54, 5, 42]
abbrev dktX7_gain_0 : List UInt8 := dkwX7_gain_0 ++ dktX7_gain_1
theorem dksX7_gain_0 : cX7_gain.data.toList.drop 0 = dktX7_gain_0 := by decide +kernel
theorem dksX7_gain_1 : cX7_gain.data.toList.drop 22 = dktX7_gain_1 := dk_seg dksX7_gain_0 22 rfl rfl
theorem dksX7_gain_2 : cX7_gain.data.toList.drop 44 = dktX7_gain_2 := dk_seg dksX7_gain_1 22 rfl rfl
theorem dksX7_gain_3 : cX7_gain.data.toList.drop 68 = dktX7_gain_3 := dk_seg dksX7_gain_2 24 rfl rfl
theorem dX7_gain_0 : decode cX7_gain 0 = .ok (.aload_n 0, 1) := dk_42 (dk_at dksX7_gain_0 0 rfl rfl)
theorem dX7_gain_1 : decode cX7_gain 1 = .ok (.getfield 70, 3) := dk_180 0 70 (dk_at dksX7_gain_0 1 rfl rfl)
theorem dX7_gain_4 : decode cX7_gain 4 = .ok (.iconst 0, 1) := dk_3 (dk_at dksX7_gain_0 4 rfl rfl)
theorem dX7_gain_5 : decode cX7_gain 5 = .ok (.iaload, 1) := dk_46 (dk_at dksX7_gain_0 5 rfl rfl)
theorem dX7_gain_6 : decode cX7_gain 6 = .ok (.istore 4, 2) := dk_54 4 (dk_at dksX7_gain_0 6 rfl rfl)
theorem dX7_gain_8 : decode cX7_gain 8 = .ok (.aload_n 0, 1) := dk_42 (dk_at dksX7_gain_0 8 rfl rfl)
theorem dX7_gain_9 : decode cX7_gain 9 = .ok (.getfield 70, 3) := dk_180 0 70 (dk_at dksX7_gain_0 9 rfl rfl)
theorem dX7_gain_12 : decode cX7_gain 12 = .ok (.aload_n 0, 1) := dk_42 (dk_at dksX7_gain_0 12 rfl rfl)
theorem dX7_gain_13 : decode cX7_gain 13 = .ok (.getfield 150, 3) := dk_180 0 150 (dk_at dksX7_gain_0 13 rfl rfl)
theorem dX7_gain_16 : decode cX7_gain 16 = .ok (.iconst 1, 1) := dk_4 (dk_at dksX7_gain_0 16 rfl rfl)
theorem dX7_gain_17 : decode cX7_gain 17 = .ok (.isub, 1) := dk_100 (dk_at dksX7_gain_0 17 rfl rfl)
theorem dX7_gain_18 : decode cX7_gain 18 = .ok (.iaload, 1) := dk_46 (dk_at dksX7_gain_0 18 rfl rfl)
theorem dX7_gain_19 : decode cX7_gain 19 = .ok (.istore 5, 2) := dk_54 5 (dk_at dksX7_gain_0 19 rfl rfl)
theorem dX7_gain_21 : decode cX7_gain 21 = .ok (.aload_n 0, 1) := dk_42 (dk_at dksX7_gain_0 21 rfl rfl)
theorem dX7_gain_22 : decode cX7_gain 22 = .ok (.getfield 73, 3) := dk_180 0 73 (dk_at dksX7_gain_1 0 rfl rfl)
theorem dX7_gain_25 : decode cX7_gain 25 = .ok (.iload 4, 2) := dk_21 4 (dk_at dksX7_gain_1 3 rfl rfl)
theorem dX7_gain_27 : decode cX7_gain 27 = .ok (.dup2, 1) := dk_92 (dk_at dksX7_gain_1 5 rfl rfl)
theorem dX7_gain_28 : decode cX7_gain 28 = .ok (.iaload, 1) := dk_46 (dk_at dksX7_gain_1 6 rfl rfl)
theorem dX7_gain_29 : decode cX7_gain 29 = .ok (.iload_n 2, 1) := dk_28 (dk_at dksX7_gain_1 7 rfl rfl)
theorem dX7_gain_30 : decode cX7_gain 30 = .ok (.iadd, 1) := dk_96 (dk_at dksX7_gain_1 8 rfl rfl)
theorem dX7_gain_31 : decode cX7_gain 31 = .ok (.iastore, 1) := dk_79 (dk_at dksX7_gain_1 9 rfl rfl)
theorem dX7_gain_32 : decode cX7_gain 32 = .ok (.aload_n 0, 1) := dk_42 (dk_at dksX7_gain_1 10 rfl rfl)
theorem dX7_gain_33 : decode cX7_gain 33 = .ok (.getfield 73, 3) := dk_180 0 73 (dk_at dksX7_gain_1 11 rfl rfl)
theorem dX7_gain_36 : decode cX7_gain 36 = .ok (.iload 5, 2) := dk_21 5 (dk_at dksX7_gain_1 14 rfl rfl)
theorem dX7_gain_38 : decode cX7_gain 38 = .ok (.dup2, 1) := dk_92 (dk_at dksX7_gain_1 16 rfl rfl)
theorem dX7_gain_39 : decode cX7_gain 39 = .ok (.iaload, 1) := dk_46 (dk_at dksX7_gain_1 17 rfl rfl)
theorem dX7_gain_40 : decode cX7_gain 40 = .ok (.iload_n 3, 1) := dk_29 (dk_at dksX7_gain_1 18 rfl rfl)
theorem dX7_gain_41 : decode cX7_gain 41 = .ok (.iadd, 1) := dk_96 (dk_at dksX7_gain_1 19 rfl rfl)
theorem dX7_gain_42 : decode cX7_gain 42 = .ok (.iastore, 1) := dk_79 (dk_at dksX7_gain_1 20 rfl rfl)
theorem dX7_gain_43 : decode cX7_gain 43 = .ok (.aload_n 0, 1) := dk_42 (dk_at dksX7_gain_1 21 rfl rfl)
theorem dX7_gain_44 : decode cX7_gain 44 = .ok (.invokevirtual 326, 3) := dk_182 1 70 (dk_at dksX7_gain_2 0 rfl rfl)
theorem dX7_gain_47 : decode cX7_gain 47 = .ok (.istore 6, 2) := dk_54 6 (dk_at dksX7_gain_2 3 rfl rfl)
theorem dX7_gain_49 : decode cX7_gain 49 = .ok (.aload_n 0, 1) := dk_42 (dk_at dksX7_gain_2 5 rfl rfl)
theorem dX7_gain_50 : decode cX7_gain 50 = .ok (.getfield 73, 3) := dk_180 0 73 (dk_at dksX7_gain_2 6 rfl rfl)
theorem dX7_gain_53 : decode cX7_gain 53 = .ok (.iload 4, 2) := dk_21 4 (dk_at dksX7_gain_2 9 rfl rfl)
theorem dX7_gain_55 : decode cX7_gain 55 = .ok (.dup2, 1) := dk_92 (dk_at dksX7_gain_2 11 rfl rfl)
theorem dX7_gain_56 : decode cX7_gain 56 = .ok (.iaload, 1) := dk_46 (dk_at dksX7_gain_2 12 rfl rfl)
theorem dX7_gain_57 : decode cX7_gain 57 = .ok (.iload_n 2, 1) := dk_28 (dk_at dksX7_gain_2 13 rfl rfl)
theorem dX7_gain_58 : decode cX7_gain 58 = .ok (.isub, 1) := dk_100 (dk_at dksX7_gain_2 14 rfl rfl)
theorem dX7_gain_59 : decode cX7_gain 59 = .ok (.iastore, 1) := dk_79 (dk_at dksX7_gain_2 15 rfl rfl)
theorem dX7_gain_60 : decode cX7_gain 60 = .ok (.aload_n 0, 1) := dk_42 (dk_at dksX7_gain_2 16 rfl rfl)
theorem dX7_gain_61 : decode cX7_gain 61 = .ok (.getfield 73, 3) := dk_180 0 73 (dk_at dksX7_gain_2 17 rfl rfl)
theorem dX7_gain_64 : decode cX7_gain 64 = .ok (.iload 5, 2) := dk_21 5 (dk_at dksX7_gain_2 20 rfl rfl)
theorem dX7_gain_66 : decode cX7_gain 66 = .ok (.dup2, 1) := dk_92 (dk_at dksX7_gain_2 22 rfl rfl)
theorem dX7_gain_67 : decode cX7_gain 67 = .ok (.iaload, 1) := dk_46 (dk_at dksX7_gain_2 23 rfl rfl)
theorem dX7_gain_68 : decode cX7_gain 68 = .ok (.iload_n 3, 1) := dk_29 (dk_at dksX7_gain_3 0 rfl rfl)
theorem dX7_gain_69 : decode cX7_gain 69 = .ok (.isub, 1) := dk_100 (dk_at dksX7_gain_3 1 rfl rfl)
theorem dX7_gain_70 : decode cX7_gain 70 = .ok (.iastore, 1) := dk_79 (dk_at dksX7_gain_3 2 rfl rfl)
theorem dX7_gain_71 : decode cX7_gain 71 = .ok (.iload 6, 2) := dk_21 6 (dk_at dksX7_gain_3 3 rfl rfl)
theorem dX7_gain_73 : decode cX7_gain 73 = .ok (.ifCond .eq 7, 3) := dk_153 0 7 (dk_at dksX7_gain_3 5 rfl rfl)
theorem dX7_gain_76 : decode cX7_gain 76 = .ok (.iload_n 1, 1) := dk_27 (dk_at dksX7_gain_3 8 rfl rfl)
theorem dX7_gain_77 : decode cX7_gain 77 = .ok (.goto 7, 3) := dk_167 0 7 (dk_at dksX7_gain_3 9 rfl rfl)
theorem dX7_gain_80 : decode cX7_gain 80 = .ok (.iload_n 1, 1) := dk_27 (dk_at dksX7_gain_3 12 rfl rfl)
theorem dX7_gain_81 : decode cX7_gain 81 = .ok (.bipush 20, 2) := dk_16 20 (dk_at dksX7_gain_3 13 rfl rfl)
theorem dX7_gain_83 : decode cX7_gain 83 = .ok (.isub, 1) := dk_100 (dk_at dksX7_gain_3 15 rfl rfl)
theorem dX7_gain_84 : decode cX7_gain 84 = .ok (.ireturn, 1) := dk_172 (dk_at dksX7_gain_3 16 rfl rfl)
abbrev cX7_decades : ByteArray := prog_20_method_112_code
def yX7_decades : MethodName := ⟨RX7, "decades", "(III)I"⟩
def dkwX7_decades_6 : List UInt8 := [21, 4, 167, 0, 15, 29, 4, 160, 0, 8, 21, 5, 167, 0, 5, 21, 6, 172]
abbrev dktX7_decades_6 : List UInt8 := dkwX7_decades_6 ++ []
def dkwX7_decades_5 : List UInt8 := [167, 0, 8, 42, 3, 182, 1, 52, 54, 6, 42, 42, 180, 0, 94, 3, 182, 1, 130, 29, 154, 0, 8]
abbrev dktX7_decades_5 : List UInt8 := dkwX7_decades_5 ++ dktX7_decades_6
def dkwX7_decades_4 : List UInt8 := [4, 96, 167, 0, 5, 21, 5, 54, 5, 132, 6, 1, 167, 255, 213, 42, 180, 0, 150, 154, 0, 7, 3]
abbrev dktX7_decades_4 : List UInt8 := dkwX7_decades_4 ++ dktX7_decades_5
def dkwX7_decades_3 : List UInt8 := [182, 1, 215, 42, 182, 1, 70, 153, 0, 9, 132, 4, 1, 167, 0, 20, 21, 5, 2, 160, 0, 10, 21, 6]
abbrev dktX7_decades_3 : List UInt8 := dkwX7_decades_3 ++ dktX7_decades_4
def dkwX7_decades_2 : List UInt8 := [182, 1, 91, 42, 27, 181, 1, 206, 3, 54, 4, 2, 54, 5, 3, 54, 6, 21, 6, 28, 162, 0, 43, 42]
abbrev dktX7_decades_2 : List UInt8 := dkwX7_decades_2 ++ dktX7_decades_3
def dkwX7_decades_1 : List UInt8 := [133, 9, 20, 1, 213, 184, 0, 146, 154, 0, 9, 42, 5, 182, 1, 13, 172, 42, 42, 180, 0, 94, 3]
abbrev dktX7_decades_1 : List UInt8 := dkwX7_decades_1 ++ dktX7_decades_2
def dkwX7_decades_0 : List UInt8 := [42, 3, 181, 0, 143, 29, 133, 9, 20, 1, 192, 184, 0, 146, 154, 0, 9, 42, 4, 182, 1, 13, 172, 28]
abbrev dktX7_decades_0 : List UInt8 := dkwX7_decades_0 ++ dktX7_decades_1
theorem dksX7_decades_0 : cX7_decades.data.toList.drop 0 = dktX7_decades_0 := by decide +kernel
theorem dksX7_decades_1 : cX7_decades.data.toList.drop 24 = dktX7_decades_1 := dk_seg dksX7_decades_0 24 rfl rfl
theorem dksX7_decades_2 : cX7_decades.data.toList.drop 47 = dktX7_decades_2 := dk_seg dksX7_decades_1 23 rfl rfl
theorem dksX7_decades_3 : cX7_decades.data.toList.drop 71 = dktX7_decades_3 := dk_seg dksX7_decades_2 24 rfl rfl
theorem dksX7_decades_4 : cX7_decades.data.toList.drop 95 = dktX7_decades_4 := dk_seg dksX7_decades_3 24 rfl rfl
theorem dksX7_decades_5 : cX7_decades.data.toList.drop 118 = dktX7_decades_5 := dk_seg dksX7_decades_4 23 rfl rfl
theorem dksX7_decades_6 : cX7_decades.data.toList.drop 141 = dktX7_decades_6 := dk_seg dksX7_decades_5 23 rfl rfl
theorem dX7_decades_0 : decode cX7_decades 0 = .ok (.aload_n 0, 1) := dk_42 (dk_at dksX7_decades_0 0 rfl rfl)
theorem dX7_decades_1 : decode cX7_decades 1 = .ok (.iconst 0, 1) := dk_3 (dk_at dksX7_decades_0 1 rfl rfl)
theorem dX7_decades_2 : decode cX7_decades 2 = .ok (.putfield 143, 3) := dk_181 0 143 (dk_at dksX7_decades_0 2 rfl rfl)
theorem dX7_decades_5 : decode cX7_decades 5 = .ok (.iload_n 3, 1) := dk_29 (dk_at dksX7_decades_0 5 rfl rfl)
theorem dX7_decades_6 : decode cX7_decades 6 = .ok (.i2l, 1) := dk_133 (dk_at dksX7_decades_0 6 rfl rfl)
theorem dX7_decades_7 : decode cX7_decades 7 = .ok (.lconst 0, 1) := dk_9 (dk_at dksX7_decades_0 7 rfl rfl)
theorem dX7_decades_8 : decode cX7_decades 8 = .ok (.ldc2_w 448, 3) := dk_20 1 192 (dk_at dksX7_decades_0 8 rfl rfl)
theorem dX7_decades_11 : decode cX7_decades 11 = .ok (.invokestatic 146, 3) := dk_184 0 146 (dk_at dksX7_decades_0 11 rfl rfl)
theorem dX7_decades_14 : decode cX7_decades 14 = .ok (.ifCond .ne 9, 3) := dk_154 0 9 (dk_at dksX7_decades_0 14 rfl rfl)
theorem dX7_decades_17 : decode cX7_decades 17 = .ok (.aload_n 0, 1) := dk_42 (dk_at dksX7_decades_0 17 rfl rfl)
theorem dX7_decades_18 : decode cX7_decades 18 = .ok (.iconst 1, 1) := dk_4 (dk_at dksX7_decades_0 18 rfl rfl)
theorem dX7_decades_19 : decode cX7_decades 19 = .ok (.invokevirtual 269, 3) := dk_182 1 13 (dk_at dksX7_decades_0 19 rfl rfl)
theorem dX7_decades_22 : decode cX7_decades 22 = .ok (.ireturn, 1) := dk_172 (dk_at dksX7_decades_0 22 rfl rfl)
theorem dX7_decades_23 : decode cX7_decades 23 = .ok (.iload_n 2, 1) := dk_28 (dk_at dksX7_decades_0 23 rfl rfl)
theorem dX7_decades_24 : decode cX7_decades 24 = .ok (.i2l, 1) := dk_133 (dk_at dksX7_decades_1 0 rfl rfl)
theorem dX7_decades_25 : decode cX7_decades 25 = .ok (.lconst 0, 1) := dk_9 (dk_at dksX7_decades_1 1 rfl rfl)
theorem dX7_decades_26 : decode cX7_decades 26 = .ok (.ldc2_w 469, 3) := dk_20 1 213 (dk_at dksX7_decades_1 2 rfl rfl)
theorem dX7_decades_29 : decode cX7_decades 29 = .ok (.invokestatic 146, 3) := dk_184 0 146 (dk_at dksX7_decades_1 5 rfl rfl)
theorem dX7_decades_32 : decode cX7_decades 32 = .ok (.ifCond .ne 9, 3) := dk_154 0 9 (dk_at dksX7_decades_1 8 rfl rfl)
theorem dX7_decades_35 : decode cX7_decades 35 = .ok (.aload_n 0, 1) := dk_42 (dk_at dksX7_decades_1 11 rfl rfl)
theorem dX7_decades_36 : decode cX7_decades 36 = .ok (.iconst 2, 1) := dk_5 (dk_at dksX7_decades_1 12 rfl rfl)
theorem dX7_decades_37 : decode cX7_decades 37 = .ok (.invokevirtual 269, 3) := dk_182 1 13 (dk_at dksX7_decades_1 13 rfl rfl)
theorem dX7_decades_40 : decode cX7_decades 40 = .ok (.ireturn, 1) := dk_172 (dk_at dksX7_decades_1 16 rfl rfl)
theorem dX7_decades_41 : decode cX7_decades 41 = .ok (.aload_n 0, 1) := dk_42 (dk_at dksX7_decades_1 17 rfl rfl)
theorem dX7_decades_42 : decode cX7_decades 42 = .ok (.aload_n 0, 1) := dk_42 (dk_at dksX7_decades_1 18 rfl rfl)
theorem dX7_decades_43 : decode cX7_decades 43 = .ok (.getfield 94, 3) := dk_180 0 94 (dk_at dksX7_decades_1 19 rfl rfl)
theorem dX7_decades_46 : decode cX7_decades 46 = .ok (.iconst 0, 1) := dk_3 (dk_at dksX7_decades_1 22 rfl rfl)
theorem dX7_decades_47 : decode cX7_decades 47 = .ok (.invokevirtual 347, 3) := dk_182 1 91 (dk_at dksX7_decades_2 0 rfl rfl)
theorem dX7_decades_50 : decode cX7_decades 50 = .ok (.aload_n 0, 1) := dk_42 (dk_at dksX7_decades_2 3 rfl rfl)
theorem dX7_decades_51 : decode cX7_decades 51 = .ok (.iload_n 1, 1) := dk_27 (dk_at dksX7_decades_2 4 rfl rfl)
theorem dX7_decades_52 : decode cX7_decades 52 = .ok (.putfield 462, 3) := dk_181 1 206 (dk_at dksX7_decades_2 5 rfl rfl)
theorem dX7_decades_55 : decode cX7_decades 55 = .ok (.iconst 0, 1) := dk_3 (dk_at dksX7_decades_2 8 rfl rfl)
theorem dX7_decades_56 : decode cX7_decades 56 = .ok (.istore 4, 2) := dk_54 4 (dk_at dksX7_decades_2 9 rfl rfl)
theorem dX7_decades_58 : decode cX7_decades 58 = .ok (.iconst (-1), 1) := dk_2 (dk_at dksX7_decades_2 11 rfl rfl)
theorem dX7_decades_59 : decode cX7_decades 59 = .ok (.istore 5, 2) := dk_54 5 (dk_at dksX7_decades_2 12 rfl rfl)
theorem dX7_decades_61 : decode cX7_decades 61 = .ok (.iconst 0, 1) := dk_3 (dk_at dksX7_decades_2 14 rfl rfl)
theorem dX7_decades_62 : decode cX7_decades 62 = .ok (.istore 6, 2) := dk_54 6 (dk_at dksX7_decades_2 15 rfl rfl)
theorem dX7_decades_64 : decode cX7_decades 64 = .ok (.iload 6, 2) := dk_21 6 (dk_at dksX7_decades_2 17 rfl rfl)
theorem dX7_decades_66 : decode cX7_decades 66 = .ok (.iload_n 2, 1) := dk_28 (dk_at dksX7_decades_2 19 rfl rfl)
theorem dX7_decades_67 : decode cX7_decades 67 = .ok (.if_icmp .ge 43, 3) := dk_162 0 43 (dk_at dksX7_decades_2 20 rfl rfl)
theorem dX7_decades_70 : decode cX7_decades 70 = .ok (.aload_n 0, 1) := dk_42 (dk_at dksX7_decades_2 23 rfl rfl)
theorem dX7_decades_71 : decode cX7_decades 71 = .ok (.invokevirtual 471, 3) := dk_182 1 215 (dk_at dksX7_decades_3 0 rfl rfl)
theorem dX7_decades_74 : decode cX7_decades 74 = .ok (.aload_n 0, 1) := dk_42 (dk_at dksX7_decades_3 3 rfl rfl)
theorem dX7_decades_75 : decode cX7_decades 75 = .ok (.invokevirtual 326, 3) := dk_182 1 70 (dk_at dksX7_decades_3 4 rfl rfl)
theorem dX7_decades_78 : decode cX7_decades 78 = .ok (.ifCond .eq 9, 3) := dk_153 0 9 (dk_at dksX7_decades_3 7 rfl rfl)
theorem dX7_decades_81 : decode cX7_decades 81 = .ok (.iinc 4 1, 3) := dk_132 4 1 (dk_at dksX7_decades_3 10 rfl rfl)
theorem dX7_decades_84 : decode cX7_decades 84 = .ok (.goto 20, 3) := dk_167 0 20 (dk_at dksX7_decades_3 13 rfl rfl)
theorem dX7_decades_87 : decode cX7_decades 87 = .ok (.iload 5, 2) := dk_21 5 (dk_at dksX7_decades_3 16 rfl rfl)
theorem dX7_decades_89 : decode cX7_decades 89 = .ok (.iconst (-1), 1) := dk_2 (dk_at dksX7_decades_3 18 rfl rfl)
theorem dX7_decades_90 : decode cX7_decades 90 = .ok (.if_icmp .ne 10, 3) := dk_160 0 10 (dk_at dksX7_decades_3 19 rfl rfl)
theorem dX7_decades_93 : decode cX7_decades 93 = .ok (.iload 6, 2) := dk_21 6 (dk_at dksX7_decades_3 22 rfl rfl)
theorem dX7_decades_95 : decode cX7_decades 95 = .ok (.iconst 1, 1) := dk_4 (dk_at dksX7_decades_4 0 rfl rfl)
theorem dX7_decades_96 : decode cX7_decades 96 = .ok (.iadd, 1) := dk_96 (dk_at dksX7_decades_4 1 rfl rfl)
theorem dX7_decades_97 : decode cX7_decades 97 = .ok (.goto 5, 3) := dk_167 0 5 (dk_at dksX7_decades_4 2 rfl rfl)
theorem dX7_decades_100 : decode cX7_decades 100 = .ok (.iload 5, 2) := dk_21 5 (dk_at dksX7_decades_4 5 rfl rfl)
theorem dX7_decades_102 : decode cX7_decades 102 = .ok (.istore 5, 2) := dk_54 5 (dk_at dksX7_decades_4 7 rfl rfl)
theorem dX7_decades_104 : decode cX7_decades 104 = .ok (.iinc 6 1, 3) := dk_132 6 1 (dk_at dksX7_decades_4 9 rfl rfl)
theorem dX7_decades_107 : decode cX7_decades 107 = .ok (.goto (-43), 3) := dk_167 255 213 (dk_at dksX7_decades_4 12 rfl rfl)
theorem dX7_decades_110 : decode cX7_decades 110 = .ok (.aload_n 0, 1) := dk_42 (dk_at dksX7_decades_4 15 rfl rfl)
theorem dX7_decades_111 : decode cX7_decades 111 = .ok (.getfield 150, 3) := dk_180 0 150 (dk_at dksX7_decades_4 16 rfl rfl)
theorem dX7_decades_114 : decode cX7_decades 114 = .ok (.ifCond .ne 7, 3) := dk_154 0 7 (dk_at dksX7_decades_4 19 rfl rfl)
theorem dX7_decades_117 : decode cX7_decades 117 = .ok (.iconst 0, 1) := dk_3 (dk_at dksX7_decades_4 22 rfl rfl)
theorem dX7_decades_118 : decode cX7_decades 118 = .ok (.goto 8, 3) := dk_167 0 8 (dk_at dksX7_decades_5 0 rfl rfl)
theorem dX7_decades_121 : decode cX7_decades 121 = .ok (.aload_n 0, 1) := dk_42 (dk_at dksX7_decades_5 3 rfl rfl)
theorem dX7_decades_122 : decode cX7_decades 122 = .ok (.iconst 0, 1) := dk_3 (dk_at dksX7_decades_5 4 rfl rfl)
theorem dX7_decades_123 : decode cX7_decades 123 = .ok (.invokevirtual 308, 3) := dk_182 1 52 (dk_at dksX7_decades_5 5 rfl rfl)
theorem dX7_decades_126 : decode cX7_decades 126 = .ok (.istore 6, 2) := dk_54 6 (dk_at dksX7_decades_5 8 rfl rfl)
theorem dX7_decades_128 : decode cX7_decades 128 = .ok (.aload_n 0, 1) := dk_42 (dk_at dksX7_decades_5 10 rfl rfl)
theorem dX7_decades_129 : decode cX7_decades 129 = .ok (.aload_n 0, 1) := dk_42 (dk_at dksX7_decades_5 11 rfl rfl)
theorem dX7_decades_130 : decode cX7_decades 130 = .ok (.getfield 94, 3) := dk_180 0 94 (dk_at dksX7_decades_5 12 rfl rfl)
theorem dX7_decades_133 : decode cX7_decades 133 = .ok (.iconst 0, 1) := dk_3 (dk_at dksX7_decades_5 15 rfl rfl)
theorem dX7_decades_134 : decode cX7_decades 134 = .ok (.invokevirtual 386, 3) := dk_182 1 130 (dk_at dksX7_decades_5 16 rfl rfl)
theorem dX7_decades_137 : decode cX7_decades 137 = .ok (.iload_n 3, 1) := dk_29 (dk_at dksX7_decades_5 19 rfl rfl)
theorem dX7_decades_138 : decode cX7_decades 138 = .ok (.ifCond .ne 8, 3) := dk_154 0 8 (dk_at dksX7_decades_5 20 rfl rfl)
theorem dX7_decades_141 : decode cX7_decades 141 = .ok (.iload 4, 2) := dk_21 4 (dk_at dksX7_decades_6 0 rfl rfl)
theorem dX7_decades_143 : decode cX7_decades 143 = .ok (.goto 15, 3) := dk_167 0 15 (dk_at dksX7_decades_6 2 rfl rfl)
theorem dX7_decades_146 : decode cX7_decades 146 = .ok (.iload_n 3, 1) := dk_29 (dk_at dksX7_decades_6 5 rfl rfl)
theorem dX7_decades_147 : decode cX7_decades 147 = .ok (.iconst 1, 1) := dk_4 (dk_at dksX7_decades_6 6 rfl rfl)
theorem dX7_decades_148 : decode cX7_decades 148 = .ok (.if_icmp .ne 8, 3) := dk_160 0 8 (dk_at dksX7_decades_6 7 rfl rfl)
theorem dX7_decades_151 : decode cX7_decades 151 = .ok (.iload 5, 2) := dk_21 5 (dk_at dksX7_decades_6 10 rfl rfl)
theorem dX7_decades_153 : decode cX7_decades 153 = .ok (.goto 5, 3) := dk_167 0 5 (dk_at dksX7_decades_6 12 rfl rfl)
theorem dX7_decades_156 : decode cX7_decades 156 = .ok (.iload 6, 2) := dk_21 6 (dk_at dksX7_decades_6 15 rfl rfl)
theorem dX7_decades_158 : decode cX7_decades 158 = .ok (.ireturn, 1) := dk_172 (dk_at dksX7_decades_6 17 rfl rfl)
abbrev cX7_aYear : ByteArray := prog_20_method_111_code
def yX7_aYear : MethodName := ⟨RX7, "aYear", "()V"⟩
def dkwX7_aYear_4 : List UInt8 := [2, 159, 0, 18, 42, 180, 0, 73, 27, 92, 46, 42, 180, 0, 55, 27, 46, 96, 79, 177]
abbrev dktX7_aYear_4 : List UInt8 := dkwX7_aYear_4 ++ []
def dkwX7_aYear_3 : List UInt8 := [16, 247, 42, 180, 0, 79, 27, 46, 4, 100, 184, 1, 42, 79, 28, 5, 160, 0, 27, 42, 27, 182, 1, 80]
abbrev dktX7_aYear_3 : List UInt8 := dkwX7_aYear_3 ++ dktX7_aYear_4
def dkwX7_aYear_2 : List UInt8 := [16, 9, 42, 180, 0, 79, 27, 46, 4, 96, 184, 0, 183, 79, 28, 4, 160, 0, 22, 42, 180, 0, 79, 27]
abbrev dktX7_aYear_2 : List UInt8 := dkwX7_aYear_2 ++ dktX7_aYear_3
def dkwX7_aYear_1 : List UInt8 := [180, 0, 42, 3, 46, 182, 1, 210, 60, 42, 8, 182, 1, 210, 61, 28, 154, 0, 22, 42, 180, 0, 79, 27]
abbrev dktX7_aYear_1 : List UInt8 := dkwX7_aYear_1 ++ dktX7_aYear_2
def dkwX7_aYear_0 : List UInt8 := [42, 89, 180, 1, 26, 4, 96, 181, 1, 26, 42, 180, 0, 42, 3, 46, 154, 0, 4, 177, 42, 42]
abbrev dktX7_aYear_0 : List UInt8 := dkwX7_aYear_0 ++ dktX7_aYear_1
theorem dksX7_aYear_0 : cX7_aYear.data.toList.drop 0 = dktX7_aYear_0 := by decide +kernel
theorem dksX7_aYear_1 : cX7_aYear.data.toList.drop 22 = dktX7_aYear_1 := dk_seg dksX7_aYear_0 22 rfl rfl
theorem dksX7_aYear_2 : cX7_aYear.data.toList.drop 46 = dktX7_aYear_2 := dk_seg dksX7_aYear_1 24 rfl rfl
theorem dksX7_aYear_3 : cX7_aYear.data.toList.drop 70 = dktX7_aYear_3 := dk_seg dksX7_aYear_2 24 rfl rfl
theorem dksX7_aYear_4 : cX7_aYear.data.toList.drop 94 = dktX7_aYear_4 := dk_seg dksX7_aYear_3 24 rfl rfl
theorem dX7_aYear_0 : decode cX7_aYear 0 = .ok (.aload_n 0, 1) := dk_42 (dk_at dksX7_aYear_0 0 rfl rfl)
theorem dX7_aYear_1 : decode cX7_aYear 1 = .ok (.dup, 1) := dk_89 (dk_at dksX7_aYear_0 1 rfl rfl)
theorem dX7_aYear_2 : decode cX7_aYear 2 = .ok (.getfield 282, 3) := dk_180 1 26 (dk_at dksX7_aYear_0 2 rfl rfl)
theorem dX7_aYear_5 : decode cX7_aYear 5 = .ok (.iconst 1, 1) := dk_4 (dk_at dksX7_aYear_0 5 rfl rfl)
theorem dX7_aYear_6 : decode cX7_aYear 6 = .ok (.iadd, 1) := dk_96 (dk_at dksX7_aYear_0 6 rfl rfl)
theorem dX7_aYear_7 : decode cX7_aYear 7 = .ok (.putfield 282, 3) := dk_181 1 26 (dk_at dksX7_aYear_0 7 rfl rfl)
theorem dX7_aYear_10 : decode cX7_aYear 10 = .ok (.aload_n 0, 1) := dk_42 (dk_at dksX7_aYear_0 10 rfl rfl)
theorem dX7_aYear_11 : decode cX7_aYear 11 = .ok (.getfield 42, 3) := dk_180 0 42 (dk_at dksX7_aYear_0 11 rfl rfl)
theorem dX7_aYear_14 : decode cX7_aYear 14 = .ok (.iconst 0, 1) := dk_3 (dk_at dksX7_aYear_0 14 rfl rfl)
theorem dX7_aYear_15 : decode cX7_aYear 15 = .ok (.iaload, 1) := dk_46 (dk_at dksX7_aYear_0 15 rfl rfl)
theorem dX7_aYear_16 : decode cX7_aYear 16 = .ok (.ifCond .ne 4, 3) := dk_154 0 4 (dk_at dksX7_aYear_0 16 rfl rfl)
theorem dX7_aYear_19 : decode cX7_aYear 19 = .ok (.return_, 1) := dk_177 (dk_at dksX7_aYear_0 19 rfl rfl)
theorem dX7_aYear_20 : decode cX7_aYear 20 = .ok (.aload_n 0, 1) := dk_42 (dk_at dksX7_aYear_0 20 rfl rfl)
theorem dX7_aYear_21 : decode cX7_aYear 21 = .ok (.aload_n 0, 1) := dk_42 (dk_at dksX7_aYear_0 21 rfl rfl)
theorem dX7_aYear_22 : decode cX7_aYear 22 = .ok (.getfield 42, 3) := dk_180 0 42 (dk_at dksX7_aYear_1 0 rfl rfl)
theorem dX7_aYear_25 : decode cX7_aYear 25 = .ok (.iconst 0, 1) := dk_3 (dk_at dksX7_aYear_1 3 rfl rfl)
theorem dX7_aYear_26 : decode cX7_aYear 26 = .ok (.iaload, 1) := dk_46 (dk_at dksX7_aYear_1 4 rfl rfl)
theorem dX7_aYear_27 : decode cX7_aYear 27 = .ok (.invokevirtual 466, 3) := dk_182 1 210 (dk_at dksX7_aYear_1 5 rfl rfl)
theorem dX7_aYear_30 : decode cX7_aYear 30 = .ok (.istore_n 1, 1) := dk_60 (dk_at dksX7_aYear_1 8 rfl rfl)
theorem dX7_aYear_31 : decode cX7_aYear 31 = .ok (.aload_n 0, 1) := dk_42 (dk_at dksX7_aYear_1 9 rfl rfl)
theorem dX7_aYear_32 : decode cX7_aYear 32 = .ok (.iconst 5, 1) := dk_8 (dk_at dksX7_aYear_1 10 rfl rfl)
theorem dX7_aYear_33 : decode cX7_aYear 33 = .ok (.invokevirtual 466, 3) := dk_182 1 210 (dk_at dksX7_aYear_1 11 rfl rfl)
theorem dX7_aYear_36 : decode cX7_aYear 36 = .ok (.istore_n 2, 1) := dk_61 (dk_at dksX7_aYear_1 14 rfl rfl)
theorem dX7_aYear_37 : decode cX7_aYear 37 = .ok (.iload_n 2, 1) := dk_28 (dk_at dksX7_aYear_1 15 rfl rfl)
theorem dX7_aYear_38 : decode cX7_aYear 38 = .ok (.ifCond .ne 22, 3) := dk_154 0 22 (dk_at dksX7_aYear_1 16 rfl rfl)
theorem dX7_aYear_41 : decode cX7_aYear 41 = .ok (.aload_n 0, 1) := dk_42 (dk_at dksX7_aYear_1 19 rfl rfl)
theorem dX7_aYear_42 : decode cX7_aYear 42 = .ok (.getfield 79, 3) := dk_180 0 79 (dk_at dksX7_aYear_1 20 rfl rfl)
theorem dX7_aYear_45 : decode cX7_aYear 45 = .ok (.iload_n 1, 1) := dk_27 (dk_at dksX7_aYear_1 23 rfl rfl)
theorem dX7_aYear_46 : decode cX7_aYear 46 = .ok (.bipush 9, 2) := dk_16 9 (dk_at dksX7_aYear_2 0 rfl rfl)
theorem dX7_aYear_48 : decode cX7_aYear 48 = .ok (.aload_n 0, 1) := dk_42 (dk_at dksX7_aYear_2 2 rfl rfl)
theorem dX7_aYear_49 : decode cX7_aYear 49 = .ok (.getfield 79, 3) := dk_180 0 79 (dk_at dksX7_aYear_2 3 rfl rfl)
theorem dX7_aYear_52 : decode cX7_aYear 52 = .ok (.iload_n 1, 1) := dk_27 (dk_at dksX7_aYear_2 6 rfl rfl)
theorem dX7_aYear_53 : decode cX7_aYear 53 = .ok (.iaload, 1) := dk_46 (dk_at dksX7_aYear_2 7 rfl rfl)
theorem dX7_aYear_54 : decode cX7_aYear 54 = .ok (.iconst 1, 1) := dk_4 (dk_at dksX7_aYear_2 8 rfl rfl)
theorem dX7_aYear_55 : decode cX7_aYear 55 = .ok (.iadd, 1) := dk_96 (dk_at dksX7_aYear_2 9 rfl rfl)
theorem dX7_aYear_56 : decode cX7_aYear 56 = .ok (.invokestatic 183, 3) := dk_184 0 183 (dk_at dksX7_aYear_2 10 rfl rfl)
theorem dX7_aYear_59 : decode cX7_aYear 59 = .ok (.iastore, 1) := dk_79 (dk_at dksX7_aYear_2 13 rfl rfl)
theorem dX7_aYear_60 : decode cX7_aYear 60 = .ok (.iload_n 2, 1) := dk_28 (dk_at dksX7_aYear_2 14 rfl rfl)
theorem dX7_aYear_61 : decode cX7_aYear 61 = .ok (.iconst 1, 1) := dk_4 (dk_at dksX7_aYear_2 15 rfl rfl)
theorem dX7_aYear_62 : decode cX7_aYear 62 = .ok (.if_icmp .ne 22, 3) := dk_160 0 22 (dk_at dksX7_aYear_2 16 rfl rfl)
theorem dX7_aYear_65 : decode cX7_aYear 65 = .ok (.aload_n 0, 1) := dk_42 (dk_at dksX7_aYear_2 19 rfl rfl)
theorem dX7_aYear_66 : decode cX7_aYear 66 = .ok (.getfield 79, 3) := dk_180 0 79 (dk_at dksX7_aYear_2 20 rfl rfl)
theorem dX7_aYear_69 : decode cX7_aYear 69 = .ok (.iload_n 1, 1) := dk_27 (dk_at dksX7_aYear_2 23 rfl rfl)
theorem dX7_aYear_70 : decode cX7_aYear 70 = .ok (.bipush (-9), 2) := dk_16 247 (dk_at dksX7_aYear_3 0 rfl rfl)
theorem dX7_aYear_72 : decode cX7_aYear 72 = .ok (.aload_n 0, 1) := dk_42 (dk_at dksX7_aYear_3 2 rfl rfl)
theorem dX7_aYear_73 : decode cX7_aYear 73 = .ok (.getfield 79, 3) := dk_180 0 79 (dk_at dksX7_aYear_3 3 rfl rfl)
theorem dX7_aYear_76 : decode cX7_aYear 76 = .ok (.iload_n 1, 1) := dk_27 (dk_at dksX7_aYear_3 6 rfl rfl)
theorem dX7_aYear_77 : decode cX7_aYear 77 = .ok (.iaload, 1) := dk_46 (dk_at dksX7_aYear_3 7 rfl rfl)
theorem dX7_aYear_78 : decode cX7_aYear 78 = .ok (.iconst 1, 1) := dk_4 (dk_at dksX7_aYear_3 8 rfl rfl)
theorem dX7_aYear_79 : decode cX7_aYear 79 = .ok (.isub, 1) := dk_100 (dk_at dksX7_aYear_3 9 rfl rfl)
theorem dX7_aYear_80 : decode cX7_aYear 80 = .ok (.invokestatic 298, 3) := dk_184 1 42 (dk_at dksX7_aYear_3 10 rfl rfl)
theorem dX7_aYear_83 : decode cX7_aYear 83 = .ok (.iastore, 1) := dk_79 (dk_at dksX7_aYear_3 13 rfl rfl)
theorem dX7_aYear_84 : decode cX7_aYear 84 = .ok (.iload_n 2, 1) := dk_28 (dk_at dksX7_aYear_3 14 rfl rfl)
theorem dX7_aYear_85 : decode cX7_aYear 85 = .ok (.iconst 2, 1) := dk_5 (dk_at dksX7_aYear_3 15 rfl rfl)
theorem dX7_aYear_86 : decode cX7_aYear 86 = .ok (.if_icmp .ne 27, 3) := dk_160 0 27 (dk_at dksX7_aYear_3 16 rfl rfl)
theorem dX7_aYear_89 : decode cX7_aYear 89 = .ok (.aload_n 0, 1) := dk_42 (dk_at dksX7_aYear_3 19 rfl rfl)
theorem dX7_aYear_90 : decode cX7_aYear 90 = .ok (.iload_n 1, 1) := dk_27 (dk_at dksX7_aYear_3 20 rfl rfl)
theorem dX7_aYear_91 : decode cX7_aYear 91 = .ok (.invokevirtual 336, 3) := dk_182 1 80 (dk_at dksX7_aYear_3 21 rfl rfl)
theorem dX7_aYear_94 : decode cX7_aYear 94 = .ok (.iconst (-1), 1) := dk_2 (dk_at dksX7_aYear_4 0 rfl rfl)
theorem dX7_aYear_95 : decode cX7_aYear 95 = .ok (.if_icmp .eq 18, 3) := dk_159 0 18 (dk_at dksX7_aYear_4 1 rfl rfl)
theorem dX7_aYear_98 : decode cX7_aYear 98 = .ok (.aload_n 0, 1) := dk_42 (dk_at dksX7_aYear_4 4 rfl rfl)
theorem dX7_aYear_99 : decode cX7_aYear 99 = .ok (.getfield 73, 3) := dk_180 0 73 (dk_at dksX7_aYear_4 5 rfl rfl)
theorem dX7_aYear_102 : decode cX7_aYear 102 = .ok (.iload_n 1, 1) := dk_27 (dk_at dksX7_aYear_4 8 rfl rfl)
theorem dX7_aYear_103 : decode cX7_aYear 103 = .ok (.dup2, 1) := dk_92 (dk_at dksX7_aYear_4 9 rfl rfl)
theorem dX7_aYear_104 : decode cX7_aYear 104 = .ok (.iaload, 1) := dk_46 (dk_at dksX7_aYear_4 10 rfl rfl)
theorem dX7_aYear_105 : decode cX7_aYear 105 = .ok (.aload_n 0, 1) := dk_42 (dk_at dksX7_aYear_4 11 rfl rfl)
theorem dX7_aYear_106 : decode cX7_aYear 106 = .ok (.getfield 55, 3) := dk_180 0 55 (dk_at dksX7_aYear_4 12 rfl rfl)
theorem dX7_aYear_109 : decode cX7_aYear 109 = .ok (.iload_n 1, 1) := dk_27 (dk_at dksX7_aYear_4 15 rfl rfl)
theorem dX7_aYear_110 : decode cX7_aYear 110 = .ok (.iaload, 1) := dk_46 (dk_at dksX7_aYear_4 16 rfl rfl)
theorem dX7_aYear_111 : decode cX7_aYear 111 = .ok (.iadd, 1) := dk_96 (dk_at dksX7_aYear_4 17 rfl rfl)
theorem dX7_aYear_112 : decode cX7_aYear 112 = .ok (.iastore, 1) := dk_79 (dk_at dksX7_aYear_4 18 rfl rfl)
theorem dX7_aYear_113 : decode cX7_aYear 113 = .ok (.return_, 1) := dk_177 (dk_at dksX7_aYear_4 19 rfl rfl)
abbrev cX7_drawOf : ByteArray := prog_20_method_110_code
def yX7_drawOf : MethodName := ⟨RX7, "drawOf", "(I)I"⟩
def dkwX7_drawOf_1 : List UInt8 := [17, 127, 255, 126, 27, 112, 172]
abbrev dktX7_drawOf_1 : List UInt8 := dkwX7_drawOf_1 ++ []
def dkwX7_drawOf_0 : List UInt8 := [42, 42, 180, 1, 206, 19, 1, 209, 104, 17, 48, 57, 96, 181, 1, 206, 42, 180, 1, 206, 16, 16, 122]
abbrev dktX7_drawOf_0 : List UInt8 := dkwX7_drawOf_0 ++ dktX7_drawOf_1
theorem dksX7_drawOf_0 : cX7_drawOf.data.toList.drop 0 = dktX7_drawOf_0 := by decide +kernel
theorem dksX7_drawOf_1 : cX7_drawOf.data.toList.drop 23 = dktX7_drawOf_1 := dk_seg dksX7_drawOf_0 23 rfl rfl
theorem dX7_drawOf_0 : decode cX7_drawOf 0 = .ok (.aload_n 0, 1) := dk_42 (dk_at dksX7_drawOf_0 0 rfl rfl)
theorem dX7_drawOf_1 : decode cX7_drawOf 1 = .ok (.aload_n 0, 1) := dk_42 (dk_at dksX7_drawOf_0 1 rfl rfl)
theorem dX7_drawOf_2 : decode cX7_drawOf 2 = .ok (.getfield 462, 3) := dk_180 1 206 (dk_at dksX7_drawOf_0 2 rfl rfl)
theorem dX7_drawOf_5 : decode cX7_drawOf 5 = .ok (.ldc_w 465, 3) := dk_19 1 209 (dk_at dksX7_drawOf_0 5 rfl rfl)
theorem dX7_drawOf_8 : decode cX7_drawOf 8 = .ok (.imul, 1) := dk_104 (dk_at dksX7_drawOf_0 8 rfl rfl)
theorem dX7_drawOf_9 : decode cX7_drawOf 9 = .ok (.sipush 12345, 3) := dk_17 48 57 (dk_at dksX7_drawOf_0 9 rfl rfl)
theorem dX7_drawOf_12 : decode cX7_drawOf 12 = .ok (.iadd, 1) := dk_96 (dk_at dksX7_drawOf_0 12 rfl rfl)
theorem dX7_drawOf_13 : decode cX7_drawOf 13 = .ok (.putfield 462, 3) := dk_181 1 206 (dk_at dksX7_drawOf_0 13 rfl rfl)
theorem dX7_drawOf_16 : decode cX7_drawOf 16 = .ok (.aload_n 0, 1) := dk_42 (dk_at dksX7_drawOf_0 16 rfl rfl)
theorem dX7_drawOf_17 : decode cX7_drawOf 17 = .ok (.getfield 462, 3) := dk_180 1 206 (dk_at dksX7_drawOf_0 17 rfl rfl)
theorem dX7_drawOf_20 : decode cX7_drawOf 20 = .ok (.bipush 16, 2) := dk_16 16 (dk_at dksX7_drawOf_0 20 rfl rfl)
theorem dX7_drawOf_22 : decode cX7_drawOf 22 = .ok (.ishr, 1) := dk_122 (dk_at dksX7_drawOf_0 22 rfl rfl)
theorem dX7_drawOf_23 : decode cX7_drawOf 23 = .ok (.sipush 32767, 3) := dk_17 127 255 (dk_at dksX7_drawOf_1 0 rfl rfl)
theorem dX7_drawOf_26 : decode cX7_drawOf 26 = .ok (.iand, 1) := dk_126 (dk_at dksX7_drawOf_1 3 rfl rfl)
theorem dX7_drawOf_27 : decode cX7_drawOf 27 = .ok (.iload_n 1, 1) := dk_27 (dk_at dksX7_drawOf_1 4 rfl rfl)
theorem dX7_drawOf_28 : decode cX7_drawOf 28 = .ok (.irem, 1) := dk_112 (dk_at dksX7_drawOf_1 5 rfl rfl)
theorem dX7_drawOf_29 : decode cX7_drawOf 29 = .ok (.ireturn, 1) := dk_172 (dk_at dksX7_drawOf_1 6 rfl rfl)
abbrev cX7_image : ByteArray := prog_20_method_114_code
def yX7_image : MethodName := ⟨RX7, "image", "()V"⟩
def dkwX7_image_3 : List UInt8 := [180, 0, 140, 42, 180, 0, 60, 184, 1, 224, 177]
abbrev dktX7_image_3 : List UInt8 := dkwX7_image_3 ++ []
def dkwX7_image_2 : List UInt8 := [180, 0, 134, 42, 180, 0, 113, 184, 1, 224, 42, 180, 0, 137, 42, 180, 0, 116, 184, 1, 224, 42]
abbrev dktX7_image_2 : List UInt8 := dkwX7_image_2 ++ dktX7_image_3
def dkwX7_image_1 : List UInt8 := [181, 1, 221, 42, 42, 180, 0, 128, 3, 182, 1, 91, 42, 180, 0, 131, 42, 180, 0, 82, 184, 1, 224, 42]
abbrev dktX7_image_1 : List UInt8 := dkwX7_image_1 ++ dktX7_image_2
def dkwX7_image_0 : List UInt8 := [42, 3, 181, 0, 143, 42, 4, 181, 1, 35, 42, 42, 180, 1, 29, 181, 1, 218, 42, 42, 180, 1, 32]
abbrev dktX7_image_0 : List UInt8 := dkwX7_image_0 ++ dktX7_image_1
theorem dksX7_image_0 : cX7_image.data.toList.drop 0 = dktX7_image_0 := by decide +kernel
theorem dksX7_image_1 : cX7_image.data.toList.drop 23 = dktX7_image_1 := dk_seg dksX7_image_0 23 rfl rfl
theorem dksX7_image_2 : cX7_image.data.toList.drop 47 = dktX7_image_2 := dk_seg dksX7_image_1 24 rfl rfl
theorem dksX7_image_3 : cX7_image.data.toList.drop 69 = dktX7_image_3 := dk_seg dksX7_image_2 22 rfl rfl
theorem dX7_image_0 : decode cX7_image 0 = .ok (.aload_n 0, 1) := dk_42 (dk_at dksX7_image_0 0 rfl rfl)
theorem dX7_image_1 : decode cX7_image 1 = .ok (.iconst 0, 1) := dk_3 (dk_at dksX7_image_0 1 rfl rfl)
theorem dX7_image_2 : decode cX7_image 2 = .ok (.putfield 143, 3) := dk_181 0 143 (dk_at dksX7_image_0 2 rfl rfl)
theorem dX7_image_5 : decode cX7_image 5 = .ok (.aload_n 0, 1) := dk_42 (dk_at dksX7_image_0 5 rfl rfl)
theorem dX7_image_6 : decode cX7_image 6 = .ok (.iconst 1, 1) := dk_4 (dk_at dksX7_image_0 6 rfl rfl)
theorem dX7_image_7 : decode cX7_image 7 = .ok (.putfield 291, 3) := dk_181 1 35 (dk_at dksX7_image_0 7 rfl rfl)
theorem dX7_image_10 : decode cX7_image 10 = .ok (.aload_n 0, 1) := dk_42 (dk_at dksX7_image_0 10 rfl rfl)
theorem dX7_image_11 : decode cX7_image 11 = .ok (.aload_n 0, 1) := dk_42 (dk_at dksX7_image_0 11 rfl rfl)
theorem dX7_image_12 : decode cX7_image 12 = .ok (.getfield 285, 3) := dk_180 1 29 (dk_at dksX7_image_0 12 rfl rfl)
theorem dX7_image_15 : decode cX7_image 15 = .ok (.putfield 474, 3) := dk_181 1 218 (dk_at dksX7_image_0 15 rfl rfl)
theorem dX7_image_18 : decode cX7_image 18 = .ok (.aload_n 0, 1) := dk_42 (dk_at dksX7_image_0 18 rfl rfl)
theorem dX7_image_19 : decode cX7_image 19 = .ok (.aload_n 0, 1) := dk_42 (dk_at dksX7_image_0 19 rfl rfl)
theorem dX7_image_20 : decode cX7_image 20 = .ok (.getfield 288, 3) := dk_180 1 32 (dk_at dksX7_image_0 20 rfl rfl)
theorem dX7_image_23 : decode cX7_image 23 = .ok (.putfield 477, 3) := dk_181 1 221 (dk_at dksX7_image_1 0 rfl rfl)
theorem dX7_image_26 : decode cX7_image 26 = .ok (.aload_n 0, 1) := dk_42 (dk_at dksX7_image_1 3 rfl rfl)
theorem dX7_image_27 : decode cX7_image 27 = .ok (.aload_n 0, 1) := dk_42 (dk_at dksX7_image_1 4 rfl rfl)
theorem dX7_image_28 : decode cX7_image 28 = .ok (.getfield 128, 3) := dk_180 0 128 (dk_at dksX7_image_1 5 rfl rfl)
theorem dX7_image_31 : decode cX7_image 31 = .ok (.iconst 0, 1) := dk_3 (dk_at dksX7_image_1 8 rfl rfl)
theorem dX7_image_32 : decode cX7_image 32 = .ok (.invokevirtual 347, 3) := dk_182 1 91 (dk_at dksX7_image_1 9 rfl rfl)
theorem dX7_image_35 : decode cX7_image 35 = .ok (.aload_n 0, 1) := dk_42 (dk_at dksX7_image_1 12 rfl rfl)
theorem dX7_image_36 : decode cX7_image 36 = .ok (.getfield 131, 3) := dk_180 0 131 (dk_at dksX7_image_1 13 rfl rfl)
theorem dX7_image_39 : decode cX7_image 39 = .ok (.aload_n 0, 1) := dk_42 (dk_at dksX7_image_1 16 rfl rfl)
theorem dX7_image_40 : decode cX7_image 40 = .ok (.getfield 82, 3) := dk_180 0 82 (dk_at dksX7_image_1 17 rfl rfl)
theorem dX7_image_43 : decode cX7_image 43 = .ok (.invokestatic 480, 3) := dk_184 1 224 (dk_at dksX7_image_1 20 rfl rfl)
theorem dX7_image_46 : decode cX7_image 46 = .ok (.aload_n 0, 1) := dk_42 (dk_at dksX7_image_1 23 rfl rfl)
theorem dX7_image_47 : decode cX7_image 47 = .ok (.getfield 134, 3) := dk_180 0 134 (dk_at dksX7_image_2 0 rfl rfl)
theorem dX7_image_50 : decode cX7_image 50 = .ok (.aload_n 0, 1) := dk_42 (dk_at dksX7_image_2 3 rfl rfl)
theorem dX7_image_51 : decode cX7_image 51 = .ok (.getfield 113, 3) := dk_180 0 113 (dk_at dksX7_image_2 4 rfl rfl)
theorem dX7_image_54 : decode cX7_image 54 = .ok (.invokestatic 480, 3) := dk_184 1 224 (dk_at dksX7_image_2 7 rfl rfl)
theorem dX7_image_57 : decode cX7_image 57 = .ok (.aload_n 0, 1) := dk_42 (dk_at dksX7_image_2 10 rfl rfl)
theorem dX7_image_58 : decode cX7_image 58 = .ok (.getfield 137, 3) := dk_180 0 137 (dk_at dksX7_image_2 11 rfl rfl)
theorem dX7_image_61 : decode cX7_image 61 = .ok (.aload_n 0, 1) := dk_42 (dk_at dksX7_image_2 14 rfl rfl)
theorem dX7_image_62 : decode cX7_image 62 = .ok (.getfield 116, 3) := dk_180 0 116 (dk_at dksX7_image_2 15 rfl rfl)
theorem dX7_image_65 : decode cX7_image 65 = .ok (.invokestatic 480, 3) := dk_184 1 224 (dk_at dksX7_image_2 18 rfl rfl)
theorem dX7_image_68 : decode cX7_image 68 = .ok (.aload_n 0, 1) := dk_42 (dk_at dksX7_image_2 21 rfl rfl)
theorem dX7_image_69 : decode cX7_image 69 = .ok (.getfield 140, 3) := dk_180 0 140 (dk_at dksX7_image_3 0 rfl rfl)
theorem dX7_image_72 : decode cX7_image 72 = .ok (.aload_n 0, 1) := dk_42 (dk_at dksX7_image_3 3 rfl rfl)
theorem dX7_image_73 : decode cX7_image 73 = .ok (.getfield 60, 3) := dk_180 0 60 (dk_at dksX7_image_3 4 rfl rfl)
theorem dX7_image_76 : decode cX7_image 76 = .ok (.invokestatic 480, 3) := dk_184 1 224 (dk_at dksX7_image_3 7 rfl rfl)
theorem dX7_image_79 : decode cX7_image 79 = .ok (.return_, 1) := dk_177 (dk_at dksX7_image_3 10 rfl rfl)
abbrev cX7_be : ByteArray := prog_20_method_113_code
def yX7_be : MethodName := ⟨RX7, "be", "([I[I)V"⟩
def dkwX7_be_0 : List UInt8 := [3, 61, 28, 42, 190, 162, 0, 15, 42, 28, 43, 28, 46, 79, 132, 2, 1, 167, 255, 241, 177]
abbrev dktX7_be_0 : List UInt8 := dkwX7_be_0 ++ []
theorem dksX7_be_0 : cX7_be.data.toList.drop 0 = dktX7_be_0 := by decide +kernel
theorem dX7_be_0 : decode cX7_be 0 = .ok (.iconst 0, 1) := dk_3 (dk_at dksX7_be_0 0 rfl rfl)
theorem dX7_be_1 : decode cX7_be 1 = .ok (.istore_n 2, 1) := dk_61 (dk_at dksX7_be_0 1 rfl rfl)
theorem dX7_be_2 : decode cX7_be 2 = .ok (.iload_n 2, 1) := dk_28 (dk_at dksX7_be_0 2 rfl rfl)
theorem dX7_be_3 : decode cX7_be 3 = .ok (.aload_n 0, 1) := dk_42 (dk_at dksX7_be_0 3 rfl rfl)
theorem dX7_be_4 : decode cX7_be 4 = .ok (.arraylength, 1) := dk_190 (dk_at dksX7_be_0 4 rfl rfl)
theorem dX7_be_5 : decode cX7_be 5 = .ok (.if_icmp .ge 15, 3) := dk_162 0 15 (dk_at dksX7_be_0 5 rfl rfl)
theorem dX7_be_8 : decode cX7_be 8 = .ok (.aload_n 0, 1) := dk_42 (dk_at dksX7_be_0 8 rfl rfl)
theorem dX7_be_9 : decode cX7_be 9 = .ok (.iload_n 2, 1) := dk_28 (dk_at dksX7_be_0 9 rfl rfl)
theorem dX7_be_10 : decode cX7_be 10 = .ok (.aload_n 1, 1) := dk_43 (dk_at dksX7_be_0 10 rfl rfl)
theorem dX7_be_11 : decode cX7_be 11 = .ok (.iload_n 2, 1) := dk_28 (dk_at dksX7_be_0 11 rfl rfl)
theorem dX7_be_12 : decode cX7_be 12 = .ok (.iaload, 1) := dk_46 (dk_at dksX7_be_0 12 rfl rfl)
theorem dX7_be_13 : decode cX7_be 13 = .ok (.iastore, 1) := dk_79 (dk_at dksX7_be_0 13 rfl rfl)
theorem dX7_be_14 : decode cX7_be 14 = .ok (.iinc 2 1, 3) := dk_132 2 1 (dk_at dksX7_be_0 14 rfl rfl)
theorem dX7_be_17 : decode cX7_be 17 = .ok (.goto (-15), 3) := dk_167 255 241 (dk_at dksX7_be_0 17 rfl rfl)
theorem dX7_be_20 : decode cX7_be 20 = .ok (.return_, 1) := dk_177 (dk_at dksX7_be_0 20 rfl rfl)
abbrev cX7_restore : ByteArray := prog_20_method_115_code
def yX7_restore : MethodName := ⟨RX7, "restore", "()Z"⟩
def dkwX7_restore_3 : List UInt8 := [184, 1, 224, 42, 180, 0, 60, 42, 180, 0, 140, 184, 1, 224, 4, 172]
abbrev dktX7_restore_3 : List UInt8 := dkwX7_restore_3 ++ []
def dkwX7_restore_2 : List UInt8 := [184, 1, 224, 42, 180, 0, 113, 42, 180, 0, 134, 184, 1, 224, 42, 180, 0, 116, 42, 180, 0, 137]
abbrev dktX7_restore_2 : List UInt8 := dkwX7_restore_2 ++ dktX7_restore_3
def dkwX7_restore_1 : List UInt8 := [180, 1, 221, 181, 1, 32, 42, 42, 180, 0, 128, 3, 182, 1, 130, 42, 180, 0, 82, 42, 180, 0, 131]
abbrev dktX7_restore_1 : List UInt8 := dkwX7_restore_1 ++ dktX7_restore_2
def dkwX7_restore_0 : List UInt8 := [42, 3, 181, 0, 143, 42, 180, 1, 35, 154, 0, 5, 3, 172, 42, 42, 180, 1, 218, 181, 1, 29, 42, 42]
abbrev dktX7_restore_0 : List UInt8 := dkwX7_restore_0 ++ dktX7_restore_1
theorem dksX7_restore_0 : cX7_restore.data.toList.drop 0 = dktX7_restore_0 := by decide +kernel
theorem dksX7_restore_1 : cX7_restore.data.toList.drop 24 = dktX7_restore_1 := dk_seg dksX7_restore_0 24 rfl rfl
theorem dksX7_restore_2 : cX7_restore.data.toList.drop 47 = dktX7_restore_2 := dk_seg dksX7_restore_1 23 rfl rfl
theorem dksX7_restore_3 : cX7_restore.data.toList.drop 69 = dktX7_restore_3 := dk_seg dksX7_restore_2 22 rfl rfl
theorem dX7_restore_0 : decode cX7_restore 0 = .ok (.aload_n 0, 1) := dk_42 (dk_at dksX7_restore_0 0 rfl rfl)
theorem dX7_restore_1 : decode cX7_restore 1 = .ok (.iconst 0, 1) := dk_3 (dk_at dksX7_restore_0 1 rfl rfl)
theorem dX7_restore_2 : decode cX7_restore 2 = .ok (.putfield 143, 3) := dk_181 0 143 (dk_at dksX7_restore_0 2 rfl rfl)
theorem dX7_restore_5 : decode cX7_restore 5 = .ok (.aload_n 0, 1) := dk_42 (dk_at dksX7_restore_0 5 rfl rfl)
theorem dX7_restore_6 : decode cX7_restore 6 = .ok (.getfield 291, 3) := dk_180 1 35 (dk_at dksX7_restore_0 6 rfl rfl)
theorem dX7_restore_9 : decode cX7_restore 9 = .ok (.ifCond .ne 5, 3) := dk_154 0 5 (dk_at dksX7_restore_0 9 rfl rfl)
theorem dX7_restore_12 : decode cX7_restore 12 = .ok (.iconst 0, 1) := dk_3 (dk_at dksX7_restore_0 12 rfl rfl)
theorem dX7_restore_13 : decode cX7_restore 13 = .ok (.ireturn, 1) := dk_172 (dk_at dksX7_restore_0 13 rfl rfl)
theorem dX7_restore_14 : decode cX7_restore 14 = .ok (.aload_n 0, 1) := dk_42 (dk_at dksX7_restore_0 14 rfl rfl)
theorem dX7_restore_15 : decode cX7_restore 15 = .ok (.aload_n 0, 1) := dk_42 (dk_at dksX7_restore_0 15 rfl rfl)
theorem dX7_restore_16 : decode cX7_restore 16 = .ok (.getfield 474, 3) := dk_180 1 218 (dk_at dksX7_restore_0 16 rfl rfl)
theorem dX7_restore_19 : decode cX7_restore 19 = .ok (.putfield 285, 3) := dk_181 1 29 (dk_at dksX7_restore_0 19 rfl rfl)
theorem dX7_restore_22 : decode cX7_restore 22 = .ok (.aload_n 0, 1) := dk_42 (dk_at dksX7_restore_0 22 rfl rfl)
theorem dX7_restore_23 : decode cX7_restore 23 = .ok (.aload_n 0, 1) := dk_42 (dk_at dksX7_restore_0 23 rfl rfl)
theorem dX7_restore_24 : decode cX7_restore 24 = .ok (.getfield 477, 3) := dk_180 1 221 (dk_at dksX7_restore_1 0 rfl rfl)
theorem dX7_restore_27 : decode cX7_restore 27 = .ok (.putfield 288, 3) := dk_181 1 32 (dk_at dksX7_restore_1 3 rfl rfl)
theorem dX7_restore_30 : decode cX7_restore 30 = .ok (.aload_n 0, 1) := dk_42 (dk_at dksX7_restore_1 6 rfl rfl)
theorem dX7_restore_31 : decode cX7_restore 31 = .ok (.aload_n 0, 1) := dk_42 (dk_at dksX7_restore_1 7 rfl rfl)
theorem dX7_restore_32 : decode cX7_restore 32 = .ok (.getfield 128, 3) := dk_180 0 128 (dk_at dksX7_restore_1 8 rfl rfl)
theorem dX7_restore_35 : decode cX7_restore 35 = .ok (.iconst 0, 1) := dk_3 (dk_at dksX7_restore_1 11 rfl rfl)
theorem dX7_restore_36 : decode cX7_restore 36 = .ok (.invokevirtual 386, 3) := dk_182 1 130 (dk_at dksX7_restore_1 12 rfl rfl)
theorem dX7_restore_39 : decode cX7_restore 39 = .ok (.aload_n 0, 1) := dk_42 (dk_at dksX7_restore_1 15 rfl rfl)
theorem dX7_restore_40 : decode cX7_restore 40 = .ok (.getfield 82, 3) := dk_180 0 82 (dk_at dksX7_restore_1 16 rfl rfl)
theorem dX7_restore_43 : decode cX7_restore 43 = .ok (.aload_n 0, 1) := dk_42 (dk_at dksX7_restore_1 19 rfl rfl)
theorem dX7_restore_44 : decode cX7_restore 44 = .ok (.getfield 131, 3) := dk_180 0 131 (dk_at dksX7_restore_1 20 rfl rfl)
theorem dX7_restore_47 : decode cX7_restore 47 = .ok (.invokestatic 480, 3) := dk_184 1 224 (dk_at dksX7_restore_2 0 rfl rfl)
theorem dX7_restore_50 : decode cX7_restore 50 = .ok (.aload_n 0, 1) := dk_42 (dk_at dksX7_restore_2 3 rfl rfl)
theorem dX7_restore_51 : decode cX7_restore 51 = .ok (.getfield 113, 3) := dk_180 0 113 (dk_at dksX7_restore_2 4 rfl rfl)
theorem dX7_restore_54 : decode cX7_restore 54 = .ok (.aload_n 0, 1) := dk_42 (dk_at dksX7_restore_2 7 rfl rfl)
theorem dX7_restore_55 : decode cX7_restore 55 = .ok (.getfield 134, 3) := dk_180 0 134 (dk_at dksX7_restore_2 8 rfl rfl)
theorem dX7_restore_58 : decode cX7_restore 58 = .ok (.invokestatic 480, 3) := dk_184 1 224 (dk_at dksX7_restore_2 11 rfl rfl)
theorem dX7_restore_61 : decode cX7_restore 61 = .ok (.aload_n 0, 1) := dk_42 (dk_at dksX7_restore_2 14 rfl rfl)
theorem dX7_restore_62 : decode cX7_restore 62 = .ok (.getfield 116, 3) := dk_180 0 116 (dk_at dksX7_restore_2 15 rfl rfl)
theorem dX7_restore_65 : decode cX7_restore 65 = .ok (.aload_n 0, 1) := dk_42 (dk_at dksX7_restore_2 18 rfl rfl)
theorem dX7_restore_66 : decode cX7_restore 66 = .ok (.getfield 137, 3) := dk_180 0 137 (dk_at dksX7_restore_2 19 rfl rfl)
theorem dX7_restore_69 : decode cX7_restore 69 = .ok (.invokestatic 480, 3) := dk_184 1 224 (dk_at dksX7_restore_3 0 rfl rfl)
theorem dX7_restore_72 : decode cX7_restore 72 = .ok (.aload_n 0, 1) := dk_42 (dk_at dksX7_restore_3 3 rfl rfl)
theorem dX7_restore_73 : decode cX7_restore 73 = .ok (.getfield 60, 3) := dk_180 0 60 (dk_at dksX7_restore_3 4 rfl rfl)
theorem dX7_restore_76 : decode cX7_restore 76 = .ok (.aload_n 0, 1) := dk_42 (dk_at dksX7_restore_3 7 rfl rfl)
theorem dX7_restore_77 : decode cX7_restore 77 = .ok (.getfield 140, 3) := dk_180 0 140 (dk_at dksX7_restore_3 8 rfl rfl)
theorem dX7_restore_80 : decode cX7_restore 80 = .ok (.invokestatic 480, 3) := dk_184 1 224 (dk_at dksX7_restore_3 11 rfl rfl)
theorem dX7_restore_83 : decode cX7_restore 83 = .ok (.iconst 1, 1) := dk_4 (dk_at dksX7_restore_3 14 rfl rfl)
theorem dX7_restore_84 : decode cX7_restore 84 = .ok (.ireturn, 1) := dk_172 (dk_at dksX7_restore_3 15 rfl rfl)
theorem q134 : (Jvm.Cond.initialized "TableTowerModel") ∈ lw_all := lw_g (lw_at lw_m1 28 rfl) rfl
theorem q635 : (Jvm.Cond.selects "TableTowerModel" ({ cls := "java/lang/Object", name := "getClass", desc := "()Ljava/lang/Class;" } : Jvm.MethodName) ({ cls := "java/lang/Object", name := "getClass", desc := "()Ljava/lang/Class;" } : Jvm.MethodName)) ∈ lw_all := lw_g (lw_at lw_m3 49 rfl) rfl
theorem q1713 : (Jvm.Cond.instantiable "TableTowerModel" (58 : Nat)) ∈ lw_all := lw_g (lw_at lw_m7 167 rfl) rfl
theorem q1715 : (Jvm.Cond.instanceMethod ({ cls := "TableTowerModel", name := "<init>", desc := "()V" } : Jvm.MethodName)) ∈ lw_all := lw_g (lw_at lw_m7 169 rfl) rfl
theorem q1716 : (Jvm.Cond.code ({ cls := "TableTowerModel", name := "<init>", desc := "()V" } : Jvm.MethodName) prog_20_method_1_code (1 : Nat) (Option.none : Option Jvm.ClassFile.FieldType)) ∈ lw_all := lw_g (lw_at lw_m7 170 rfl) rfl
theorem q1717 : (Jvm.Cond.methodLink "TableTowerModel" (3 : Nat) ({ cls := "java/lang/Object", name := "<init>", desc := "()V" } : Jvm.MethodName)) ∈ lw_all := lw_g (lw_at lw_m7 171 rfl) rfl
theorem q1718 : (Jvm.Cond.classLink "TableTowerModel" (9 : Nat) "java/lang/String") ∈ lw_all := lw_g (lw_at lw_m7 172 rfl) rfl
theorem q1720 : (Jvm.Cond.stringRef "TableTowerModel" (11 : Nat) "pine") ∈ lw_tbl := lw_at lw_m7 174 rfl
theorem q1721 : (Jvm.Cond.stringRef "TableTowerModel" (13 : Nat) "oak") ∈ lw_tbl := lw_at lw_m7 175 rfl
theorem q1722 : (Jvm.Cond.stringRef "TableTowerModel" (15 : Nat) "folding") ∈ lw_tbl := lw_at lw_m7 176 rfl
theorem q1723 : (Jvm.Cond.stringRef "TableTowerModel" (17 : Nat) "castor") ∈ lw_tbl := lw_at lw_m7 177 rfl
theorem q1724 : (Jvm.Cond.stringRef "TableTowerModel" (23 : Nat) "level") ∈ lw_tbl := lw_at lw_m7 178 rfl
theorem q1725 : (Jvm.Cond.stringRef "TableTowerModel" (25 : Nat) "hunger") ∈ lw_tbl := lw_at lw_m7 179 rfl
theorem q1726 : (Jvm.Cond.stringRef "TableTowerModel" (27 : Nat) "left") ∈ lw_tbl := lw_at lw_m7 180 rfl
theorem q1727 : (Jvm.Cond.stringRef "TableTowerModel" (29 : Nat) "kind") ∈ lw_tbl := lw_at lw_m7 181 rfl
theorem q1728 : (Jvm.Cond.stringRef "TableTowerModel" (31 : Nat) "above") ∈ lw_tbl := lw_at lw_m7 182 rfl
theorem q1729 : (Jvm.Cond.stringRef "TableTowerModel" (33 : Nat) "weight") ∈ lw_tbl := lw_at lw_m7 183 rfl
theorem q1730 : (Jvm.Cond.fieldLink "TableTowerModel" (19 : Nat) "TableTowerModel" "kinds" "[Ljava/lang/String;") ∈ lw_all := lw_g (lw_at lw_m7 184 rfl) rfl
theorem q1731 : (Jvm.Cond.fieldLink "TableTowerModel" (35 : Nat) "TableTowerModel" "values" "[Ljava/lang/String;") ∈ lw_all := lw_g (lw_at lw_m7 185 rfl) rfl
theorem q1732 : (Jvm.Cond.fieldLink "TableTowerModel" (38 : Nat) "TableTowerModel" "wormOf" "[I") ∈ lw_all := lw_g (lw_at lw_m7 186 rfl) rfl
theorem q1733 : (Jvm.Cond.fieldLink "TableTowerModel" (143 : Nat) "TableTowerModel" "code" "I") ∈ lw_all := lw_g (lw_at lw_m7 187 rfl) rfl
theorem q1734 : (Jvm.Cond.fieldLink "TableTowerModel" (42 : Nat) "TableTowerModel" "told" "[I") ∈ lw_all := lw_g (lw_at lw_m7 188 rfl) rfl
theorem q1735 : (Jvm.Cond.fieldLink "TableTowerModel" (45 : Nat) "TableTowerModel" "kind" "[I") ∈ lw_all := lw_g (lw_at lw_m7 189 rfl) rfl
theorem q1736 : (Jvm.Cond.fieldLink "TableTowerModel" (47 : Nat) "TableTowerModel" "weight" "[I") ∈ lw_all := lw_g (lw_at lw_m7 190 rfl) rfl
theorem q1737 : (Jvm.Cond.fieldLink "TableTowerModel" (49 : Nat) "TableTowerModel" "bears" "[I") ∈ lw_all := lw_g (lw_at lw_m7 191 rfl) rfl
theorem q1738 : (Jvm.Cond.fieldLink "TableTowerModel" (52 : Nat) "TableTowerModel" "leanTold" "[I") ∈ lw_all := lw_g (lw_at lw_m7 192 rfl) rfl
theorem q1739 : (Jvm.Cond.fieldLink "TableTowerModel" (55 : Nat) "TableTowerModel" "hunger" "[I") ∈ lw_all := lw_g (lw_at lw_m7 193 rfl) rfl
theorem q1740 : (Jvm.Cond.fieldLink "TableTowerModel" (57 : Nat) "TableTowerModel" "signs" "[I") ∈ lw_all := lw_g (lw_at lw_m7 194 rfl) rfl
theorem q1741 : (Jvm.Cond.fieldLink "TableTowerModel" (60 : Nat) "TableTowerModel" "status" "[I") ∈ lw_all := lw_g (lw_at lw_m7 195 rfl) rfl
theorem q1742 : (Jvm.Cond.fieldLink "TableTowerModel" (63 : Nat) "TableTowerModel" "tape" "[I") ∈ lw_all := lw_g (lw_at lw_m7 196 rfl) rfl
theorem q1743 : (Jvm.Cond.fieldLink "TableTowerModel" (153 : Nat) "TableTowerModel" "taped" "I") ∈ lw_all := lw_g (lw_at lw_m7 197 rfl) rfl
theorem q1744 : (Jvm.Cond.fieldLink "TableTowerModel" (159 : Nat) "TableTowerModel" "at" "I") ∈ lw_all := lw_g (lw_at lw_m7 198 rfl) rfl
theorem q1745 : (Jvm.Cond.fieldLink "TableTowerModel" (156 : Nat) "TableTowerModel" "size" "I") ∈ lw_all := lw_g (lw_at lw_m7 199 rfl) rfl
theorem q1746 : (Jvm.Cond.fieldLink "TableTowerModel" (169 : Nat) "TableTowerModel" "token" "I") ∈ lw_all := lw_g (lw_at lw_m7 200 rfl) rfl
theorem q1747 : (Jvm.Cond.fieldLink "TableTowerModel" (179 : Nat) "TableTowerModel" "number" "I") ∈ lw_all := lw_g (lw_at lw_m7 201 rfl) rfl
theorem q1748 : (Jvm.Cond.fieldLink "TableTowerModel" (166 : Nat) "TableTowerModel" "begins" "I") ∈ lw_all := lw_g (lw_at lw_m7 202 rfl) rfl
theorem q1749 : (Jvm.Cond.fieldLink "TableTowerModel" (192 : Nat) "TableTowerModel" "stops" "I") ∈ lw_all := lw_g (lw_at lw_m7 203 rfl) rfl
theorem q1750 : (Jvm.Cond.fieldLink "TableTowerModel" (195 : Nat) "TableTowerModel" "bad" "I") ∈ lw_all := lw_g (lw_at lw_m7 204 rfl) rfl
theorem q1751 : (Jvm.Cond.fieldLink "TableTowerModel" (198 : Nat) "TableTowerModel" "badPlace" "I") ∈ lw_all := lw_g (lw_at lw_m7 205 rfl) rfl
theorem q1752 : (Jvm.Cond.fieldLink "TableTowerModel" (66 : Nat) "TableTowerModel" "faultPlace" "I") ∈ lw_all := lw_g (lw_at lw_m7 206 rfl) rfl
theorem q1753 : (Jvm.Cond.fieldLink "TableTowerModel" (70 : Nat) "TableTowerModel" "tower" "[I") ∈ lw_all := lw_g (lw_at lw_m7 207 rfl) rfl
theorem q1754 : (Jvm.Cond.fieldLink "TableTowerModel" (73 : Nat) "TableTowerModel" "meals" "[I") ∈ lw_all := lw_g (lw_at lw_m7 208 rfl) rfl
theorem q1755 : (Jvm.Cond.fieldLink "TableTowerModel" (76 : Nat) "TableTowerModel" "wedge" "[I") ∈ lw_all := lw_g (lw_at lw_m7 209 rfl) rfl
theorem q1756 : (Jvm.Cond.fieldLink "TableTowerModel" (79 : Nat) "TableTowerModel" "lean" "[I") ∈ lw_all := lw_g (lw_at lw_m7 210 rfl) rfl
theorem q1757 : (Jvm.Cond.fieldLink "TableTowerModel" (82 : Nat) "TableTowerModel" "past" "[I") ∈ lw_all := lw_g (lw_at lw_m7 211 rfl) rfl
theorem q1758 : (Jvm.Cond.fieldLink "TableTowerModel" (150 : Nat) "TableTowerModel" "height" "I") ∈ lw_all := lw_g (lw_at lw_m7 212 rfl) rfl
theorem q1759 : (Jvm.Cond.fieldLink "TableTowerModel" (282 : Nat) "TableTowerModel" "gone" "I") ∈ lw_all := lw_g (lw_at lw_m7 213 rfl) rfl
theorem q1760 : (Jvm.Cond.fieldLink "TableTowerModel" (85 : Nat) "TableTowerModel" "crumbs" "I") ∈ lw_all := lw_g (lw_at lw_m7 214 rfl) rfl
theorem q1761 : (Jvm.Cond.fieldLink "TableTowerModel" (285 : Nat) "TableTowerModel" "acts" "I") ∈ lw_all := lw_g (lw_at lw_m7 215 rfl) rfl
theorem q1762 : (Jvm.Cond.fieldLink "TableTowerModel" (288 : Nat) "TableTowerModel" "seen" "I") ∈ lw_all := lw_g (lw_at lw_m7 216 rfl) rfl
theorem q1763 : (Jvm.Cond.fieldLink "TableTowerModel" (88 : Nat) "TableTowerModel" "asked" "[I") ∈ lw_all := lw_g (lw_at lw_m7 217 rfl) rfl
theorem q1764 : (Jvm.Cond.fieldLink "TableTowerModel" (91 : Nat) "TableTowerModel" "stack" "[I") ∈ lw_all := lw_g (lw_at lw_m7 218 rfl) rfl
theorem q1765 : (Jvm.Cond.fieldLink "TableTowerModel" (94 : Nat) "TableTowerModel" "rowThen" "[I") ∈ lw_all := lw_g (lw_at lw_m7 219 rfl) rfl
theorem q1766 : (Jvm.Cond.fieldLink "TableTowerModel" (97 : Nat) "TableTowerModel" "weights" "[I") ∈ lw_all := lw_g (lw_at lw_m7 220 rfl) rfl
theorem q1767 : (Jvm.Cond.fieldLink "TableTowerModel" (100 : Nat) "TableTowerModel" "tilts" "[I") ∈ lw_all := lw_g (lw_at lw_m7 221 rfl) rfl
theorem q1768 : (Jvm.Cond.fieldLink "TableTowerModel" (103 : Nat) "TableTowerModel" "ways" "[J") ∈ lw_all := lw_g (lw_at lw_m7 222 rfl) rfl
theorem q1769 : (Jvm.Cond.fieldLink "TableTowerModel" (392 : Nat) "TableTowerModel" "lifted" "I") ∈ lw_all := lw_g (lw_at lw_m7 223 rfl) rfl
theorem q1770 : (Jvm.Cond.fieldLink "TableTowerModel" (402 : Nat) "TableTowerModel" "sea" "I") ∈ lw_all := lw_g (lw_at lw_m7 224 rfl) rfl
theorem q1771 : (Jvm.Cond.fieldLink "TableTowerModel" (107 : Nat) "TableTowerModel" "few" "[I") ∈ lw_all := lw_g (lw_at lw_m7 225 rfl) rfl
theorem q1772 : (Jvm.Cond.fieldLink "TableTowerModel" (110 : Nat) "TableTowerModel" "fewer" "[I") ∈ lw_all := lw_g (lw_at lw_m7 226 rfl) rfl
theorem q1773 : (Jvm.Cond.fieldLink "TableTowerModel" (113 : Nat) "TableTowerModel" "seenLevel" "[I") ∈ lw_all := lw_g (lw_at lw_m7 227 rfl) rfl
theorem q1774 : (Jvm.Cond.fieldLink "TableTowerModel" (116 : Nat) "TableTowerModel" "seenTilt" "[I") ∈ lw_all := lw_g (lw_at lw_m7 228 rfl) rfl
theorem q1775 : (Jvm.Cond.fieldLink "TableTowerModel" (119 : Nat) "TableTowerModel" "fitTable" "[I") ∈ lw_all := lw_g (lw_at lw_m7 229 rfl) rfl
theorem q1776 : (Jvm.Cond.fieldLink "TableTowerModel" (122 : Nat) "TableTowerModel" "fitLean" "[I") ∈ lw_all := lw_g (lw_at lw_m7 230 rfl) rfl
theorem q1777 : (Jvm.Cond.fieldLink "TableTowerModel" (442 : Nat) "TableTowerModel" "fitMany" "I") ∈ lw_all := lw_g (lw_at lw_m7 231 rfl) rfl
theorem q1778 : (Jvm.Cond.fieldLink "TableTowerModel" (125 : Nat) "TableTowerModel" "tiltOf" "[I") ∈ lw_all := lw_g (lw_at lw_m7 232 rfl) rfl
theorem q1779 : (Jvm.Cond.fieldLink "TableTowerModel" (462 : Nat) "TableTowerModel" "seedNow" "I") ∈ lw_all := lw_g (lw_at lw_m7 233 rfl) rfl
theorem q1780 : (Jvm.Cond.fieldLink "TableTowerModel" (291 : Nat) "TableTowerModel" "hasImage" "Z") ∈ lw_all := lw_g (lw_at lw_m7 234 rfl) rfl
theorem q1781 : (Jvm.Cond.fieldLink "TableTowerModel" (474 : Nat) "TableTowerModel" "actsThen" "I") ∈ lw_all := lw_g (lw_at lw_m7 235 rfl) rfl
theorem q1782 : (Jvm.Cond.fieldLink "TableTowerModel" (477 : Nat) "TableTowerModel" "seenThen" "I") ∈ lw_all := lw_g (lw_at lw_m7 236 rfl) rfl
theorem q1783 : (Jvm.Cond.fieldLink "TableTowerModel" (128 : Nat) "TableTowerModel" "imageRow" "[I") ∈ lw_all := lw_g (lw_at lw_m7 237 rfl) rfl
theorem q1784 : (Jvm.Cond.fieldLink "TableTowerModel" (131 : Nat) "TableTowerModel" "pastThen" "[I") ∈ lw_all := lw_g (lw_at lw_m7 238 rfl) rfl
theorem q1785 : (Jvm.Cond.fieldLink "TableTowerModel" (134 : Nat) "TableTowerModel" "seenLevelThen" "[I") ∈ lw_all := lw_g (lw_at lw_m7 239 rfl) rfl
theorem q1786 : (Jvm.Cond.fieldLink "TableTowerModel" (137 : Nat) "TableTowerModel" "seenTiltThen" "[I") ∈ lw_all := lw_g (lw_at lw_m8 0 rfl) rfl
theorem q1787 : (Jvm.Cond.fieldLink "TableTowerModel" (140 : Nat) "TableTowerModel" "statusThen" "[I") ∈ lw_all := lw_g (lw_at lw_m8 1 rfl) rfl
theorem q1788 : (Jvm.Cond.laysFinal "TableTowerModel" "TableTowerModel" "kinds" "[Ljava/lang/String;") ∈ lw_all := lw_g (lw_at lw_m8 2 rfl) rfl
theorem q1789 : (Jvm.Cond.soleField "TableTowerModel" "kinds") ∈ lw_all := lw_g (lw_at lw_m8 3 rfl) rfl
theorem q1790 : (Jvm.Cond.laysFinal "TableTowerModel" "TableTowerModel" "values" "[Ljava/lang/String;") ∈ lw_all := lw_g (lw_at lw_m8 4 rfl) rfl
theorem q1791 : (Jvm.Cond.soleField "TableTowerModel" "values") ∈ lw_all := lw_g (lw_at lw_m8 5 rfl) rfl
theorem q1792 : (Jvm.Cond.laysFinal "TableTowerModel" "TableTowerModel" "wormOf" "[I") ∈ lw_all := lw_g (lw_at lw_m8 6 rfl) rfl
theorem q1793 : (Jvm.Cond.soleField "TableTowerModel" "wormOf") ∈ lw_all := lw_g (lw_at lw_m8 7 rfl) rfl
theorem q1794 : (Jvm.Cond.lays "TableTowerModel" "TableTowerModel" "code" "I") ∈ lw_all := lw_g (lw_at lw_m8 8 rfl) rfl
theorem q1795 : (Jvm.Cond.soleField "TableTowerModel" "code") ∈ lw_all := lw_g (lw_at lw_m8 9 rfl) rfl
theorem q1796 : (Jvm.Cond.laysFinal "TableTowerModel" "TableTowerModel" "told" "[I") ∈ lw_all := lw_g (lw_at lw_m8 10 rfl) rfl
theorem q1797 : (Jvm.Cond.soleField "TableTowerModel" "told") ∈ lw_all := lw_g (lw_at lw_m8 11 rfl) rfl
theorem q1798 : (Jvm.Cond.laysFinal "TableTowerModel" "TableTowerModel" "kind" "[I") ∈ lw_all := lw_g (lw_at lw_m8 12 rfl) rfl
theorem q1799 : (Jvm.Cond.soleField "TableTowerModel" "kind") ∈ lw_all := lw_g (lw_at lw_m8 13 rfl) rfl
theorem q1800 : (Jvm.Cond.laysFinal "TableTowerModel" "TableTowerModel" "weight" "[I") ∈ lw_all := lw_g (lw_at lw_m8 14 rfl) rfl
theorem q1801 : (Jvm.Cond.soleField "TableTowerModel" "weight") ∈ lw_all := lw_g (lw_at lw_m8 15 rfl) rfl
theorem q1802 : (Jvm.Cond.laysFinal "TableTowerModel" "TableTowerModel" "bears" "[I") ∈ lw_all := lw_g (lw_at lw_m8 16 rfl) rfl
theorem q1803 : (Jvm.Cond.soleField "TableTowerModel" "bears") ∈ lw_all := lw_g (lw_at lw_m8 17 rfl) rfl
theorem q1804 : (Jvm.Cond.laysFinal "TableTowerModel" "TableTowerModel" "leanTold" "[I") ∈ lw_all := lw_g (lw_at lw_m8 18 rfl) rfl
theorem q1805 : (Jvm.Cond.soleField "TableTowerModel" "leanTold") ∈ lw_all := lw_g (lw_at lw_m8 19 rfl) rfl
theorem q1806 : (Jvm.Cond.laysFinal "TableTowerModel" "TableTowerModel" "hunger" "[I") ∈ lw_all := lw_g (lw_at lw_m8 20 rfl) rfl
theorem q1807 : (Jvm.Cond.soleField "TableTowerModel" "hunger") ∈ lw_all := lw_g (lw_at lw_m8 21 rfl) rfl
theorem q1808 : (Jvm.Cond.laysFinal "TableTowerModel" "TableTowerModel" "signs" "[I") ∈ lw_all := lw_g (lw_at lw_m8 22 rfl) rfl
theorem q1809 : (Jvm.Cond.soleField "TableTowerModel" "signs") ∈ lw_all := lw_g (lw_at lw_m8 23 rfl) rfl
theorem q1810 : (Jvm.Cond.laysFinal "TableTowerModel" "TableTowerModel" "status" "[I") ∈ lw_all := lw_g (lw_at lw_m8 24 rfl) rfl
theorem q1811 : (Jvm.Cond.soleField "TableTowerModel" "status") ∈ lw_all := lw_g (lw_at lw_m8 25 rfl) rfl
theorem q1812 : (Jvm.Cond.laysFinal "TableTowerModel" "TableTowerModel" "tape" "[I") ∈ lw_all := lw_g (lw_at lw_m8 26 rfl) rfl
theorem q1813 : (Jvm.Cond.soleField "TableTowerModel" "tape") ∈ lw_all := lw_g (lw_at lw_m8 27 rfl) rfl
theorem q1814 : (Jvm.Cond.lays "TableTowerModel" "TableTowerModel" "taped" "I") ∈ lw_all := lw_g (lw_at lw_m8 28 rfl) rfl
theorem q1815 : (Jvm.Cond.soleField "TableTowerModel" "taped") ∈ lw_all := lw_g (lw_at lw_m8 29 rfl) rfl
theorem q1816 : (Jvm.Cond.lays "TableTowerModel" "TableTowerModel" "at" "I") ∈ lw_all := lw_g (lw_at lw_m8 30 rfl) rfl
theorem q1817 : (Jvm.Cond.soleField "TableTowerModel" "at") ∈ lw_all := lw_g (lw_at lw_m8 31 rfl) rfl
theorem q1818 : (Jvm.Cond.lays "TableTowerModel" "TableTowerModel" "size" "I") ∈ lw_all := lw_g (lw_at lw_m8 32 rfl) rfl
theorem q1819 : (Jvm.Cond.soleField "TableTowerModel" "size") ∈ lw_all := lw_g (lw_at lw_m8 33 rfl) rfl
theorem q1820 : (Jvm.Cond.lays "TableTowerModel" "TableTowerModel" "token" "I") ∈ lw_all := lw_g (lw_at lw_m8 34 rfl) rfl
theorem q1821 : (Jvm.Cond.soleField "TableTowerModel" "token") ∈ lw_all := lw_g (lw_at lw_m8 35 rfl) rfl
theorem q1822 : (Jvm.Cond.lays "TableTowerModel" "TableTowerModel" "number" "I") ∈ lw_all := lw_g (lw_at lw_m8 36 rfl) rfl
theorem q1823 : (Jvm.Cond.soleField "TableTowerModel" "number") ∈ lw_all := lw_g (lw_at lw_m8 37 rfl) rfl
theorem q1824 : (Jvm.Cond.lays "TableTowerModel" "TableTowerModel" "begins" "I") ∈ lw_all := lw_g (lw_at lw_m8 38 rfl) rfl
theorem q1825 : (Jvm.Cond.soleField "TableTowerModel" "begins") ∈ lw_all := lw_g (lw_at lw_m8 39 rfl) rfl
theorem q1826 : (Jvm.Cond.lays "TableTowerModel" "TableTowerModel" "stops" "I") ∈ lw_all := lw_g (lw_at lw_m8 40 rfl) rfl
theorem q1827 : (Jvm.Cond.soleField "TableTowerModel" "stops") ∈ lw_all := lw_g (lw_at lw_m8 41 rfl) rfl
theorem q1828 : (Jvm.Cond.lays "TableTowerModel" "TableTowerModel" "bad" "I") ∈ lw_all := lw_g (lw_at lw_m8 42 rfl) rfl
theorem q1829 : (Jvm.Cond.soleField "TableTowerModel" "bad") ∈ lw_all := lw_g (lw_at lw_m8 43 rfl) rfl
theorem q1830 : (Jvm.Cond.lays "TableTowerModel" "TableTowerModel" "badPlace" "I") ∈ lw_all := lw_g (lw_at lw_m8 44 rfl) rfl
theorem q1831 : (Jvm.Cond.soleField "TableTowerModel" "badPlace") ∈ lw_all := lw_g (lw_at lw_m8 45 rfl) rfl
theorem q1832 : (Jvm.Cond.lays "TableTowerModel" "TableTowerModel" "faultPlace" "I") ∈ lw_all := lw_g (lw_at lw_m8 46 rfl) rfl
theorem q1833 : (Jvm.Cond.soleField "TableTowerModel" "faultPlace") ∈ lw_all := lw_g (lw_at lw_m8 47 rfl) rfl
theorem q1834 : (Jvm.Cond.laysFinal "TableTowerModel" "TableTowerModel" "tower" "[I") ∈ lw_all := lw_g (lw_at lw_m8 48 rfl) rfl
theorem q1835 : (Jvm.Cond.soleField "TableTowerModel" "tower") ∈ lw_all := lw_g (lw_at lw_m8 49 rfl) rfl
theorem q1836 : (Jvm.Cond.laysFinal "TableTowerModel" "TableTowerModel" "meals" "[I") ∈ lw_all := lw_g (lw_at lw_m8 50 rfl) rfl
theorem q1837 : (Jvm.Cond.soleField "TableTowerModel" "meals") ∈ lw_all := lw_g (lw_at lw_m8 51 rfl) rfl
theorem q1838 : (Jvm.Cond.laysFinal "TableTowerModel" "TableTowerModel" "wedge" "[I") ∈ lw_all := lw_g (lw_at lw_m8 52 rfl) rfl
theorem q1839 : (Jvm.Cond.soleField "TableTowerModel" "wedge") ∈ lw_all := lw_g (lw_at lw_m8 53 rfl) rfl
theorem q1840 : (Jvm.Cond.laysFinal "TableTowerModel" "TableTowerModel" "lean" "[I") ∈ lw_all := lw_g (lw_at lw_m8 54 rfl) rfl
theorem q1841 : (Jvm.Cond.soleField "TableTowerModel" "lean") ∈ lw_all := lw_g (lw_at lw_m8 55 rfl) rfl
theorem q1842 : (Jvm.Cond.laysFinal "TableTowerModel" "TableTowerModel" "past" "[I") ∈ lw_all := lw_g (lw_at lw_m8 56 rfl) rfl
theorem q1843 : (Jvm.Cond.soleField "TableTowerModel" "past") ∈ lw_all := lw_g (lw_at lw_m8 57 rfl) rfl
theorem q1844 : (Jvm.Cond.lays "TableTowerModel" "TableTowerModel" "height" "I") ∈ lw_all := lw_g (lw_at lw_m8 58 rfl) rfl
theorem q1845 : (Jvm.Cond.soleField "TableTowerModel" "height") ∈ lw_all := lw_g (lw_at lw_m8 59 rfl) rfl
theorem q1846 : (Jvm.Cond.lays "TableTowerModel" "TableTowerModel" "gone" "I") ∈ lw_all := lw_g (lw_at lw_m8 60 rfl) rfl
theorem q1847 : (Jvm.Cond.soleField "TableTowerModel" "gone") ∈ lw_all := lw_g (lw_at lw_m8 61 rfl) rfl
theorem q1848 : (Jvm.Cond.lays "TableTowerModel" "TableTowerModel" "crumbs" "I") ∈ lw_all := lw_g (lw_at lw_m8 62 rfl) rfl
theorem q1849 : (Jvm.Cond.soleField "TableTowerModel" "crumbs") ∈ lw_all := lw_g (lw_at lw_m8 63 rfl) rfl
theorem q1850 : (Jvm.Cond.lays "TableTowerModel" "TableTowerModel" "acts" "I") ∈ lw_all := lw_g (lw_at lw_m8 64 rfl) rfl
theorem q1851 : (Jvm.Cond.soleField "TableTowerModel" "acts") ∈ lw_all := lw_g (lw_at lw_m8 65 rfl) rfl
theorem q1852 : (Jvm.Cond.lays "TableTowerModel" "TableTowerModel" "seen" "I") ∈ lw_all := lw_g (lw_at lw_m8 66 rfl) rfl
theorem q1853 : (Jvm.Cond.soleField "TableTowerModel" "seen") ∈ lw_all := lw_g (lw_at lw_m8 67 rfl) rfl
theorem q1854 : (Jvm.Cond.laysFinal "TableTowerModel" "TableTowerModel" "asked" "[I") ∈ lw_all := lw_g (lw_at lw_m8 68 rfl) rfl
theorem q1855 : (Jvm.Cond.soleField "TableTowerModel" "asked") ∈ lw_all := lw_g (lw_at lw_m8 69 rfl) rfl
theorem q1856 : (Jvm.Cond.laysFinal "TableTowerModel" "TableTowerModel" "stack" "[I") ∈ lw_all := lw_g (lw_at lw_m8 70 rfl) rfl
theorem q1857 : (Jvm.Cond.soleField "TableTowerModel" "stack") ∈ lw_all := lw_g (lw_at lw_m8 71 rfl) rfl
theorem q1858 : (Jvm.Cond.laysFinal "TableTowerModel" "TableTowerModel" "rowThen" "[I") ∈ lw_all := lw_g (lw_at lw_m8 72 rfl) rfl
theorem q1859 : (Jvm.Cond.soleField "TableTowerModel" "rowThen") ∈ lw_all := lw_g (lw_at lw_m8 73 rfl) rfl
theorem q1860 : (Jvm.Cond.laysFinal "TableTowerModel" "TableTowerModel" "weights" "[I") ∈ lw_all := lw_g (lw_at lw_m8 74 rfl) rfl
theorem q1861 : (Jvm.Cond.soleField "TableTowerModel" "weights") ∈ lw_all := lw_g (lw_at lw_m8 75 rfl) rfl
theorem q1862 : (Jvm.Cond.laysFinal "TableTowerModel" "TableTowerModel" "tilts" "[I") ∈ lw_all := lw_g (lw_at lw_m8 76 rfl) rfl
theorem q1863 : (Jvm.Cond.soleField "TableTowerModel" "tilts") ∈ lw_all := lw_g (lw_at lw_m8 77 rfl) rfl
theorem q1864 : (Jvm.Cond.laysFinal "TableTowerModel" "TableTowerModel" "ways" "[J") ∈ lw_all := lw_g (lw_at lw_m8 78 rfl) rfl
theorem q1865 : (Jvm.Cond.soleField "TableTowerModel" "ways") ∈ lw_all := lw_g (lw_at lw_m8 79 rfl) rfl
theorem q1866 : (Jvm.Cond.lays "TableTowerModel" "TableTowerModel" "lifted" "I") ∈ lw_all := lw_g (lw_at lw_m8 80 rfl) rfl
theorem q1867 : (Jvm.Cond.soleField "TableTowerModel" "lifted") ∈ lw_all := lw_g (lw_at lw_m8 81 rfl) rfl
theorem q1868 : (Jvm.Cond.lays "TableTowerModel" "TableTowerModel" "sea" "I") ∈ lw_all := lw_g (lw_at lw_m8 82 rfl) rfl
theorem q1869 : (Jvm.Cond.soleField "TableTowerModel" "sea") ∈ lw_all := lw_g (lw_at lw_m8 83 rfl) rfl
theorem q1870 : (Jvm.Cond.laysFinal "TableTowerModel" "TableTowerModel" "few" "[I") ∈ lw_all := lw_g (lw_at lw_m8 84 rfl) rfl
theorem q1871 : (Jvm.Cond.soleField "TableTowerModel" "few") ∈ lw_all := lw_g (lw_at lw_m8 85 rfl) rfl
theorem q1872 : (Jvm.Cond.laysFinal "TableTowerModel" "TableTowerModel" "fewer" "[I") ∈ lw_all := lw_g (lw_at lw_m8 86 rfl) rfl
theorem q1873 : (Jvm.Cond.soleField "TableTowerModel" "fewer") ∈ lw_all := lw_g (lw_at lw_m8 87 rfl) rfl
theorem q1874 : (Jvm.Cond.laysFinal "TableTowerModel" "TableTowerModel" "seenLevel" "[I") ∈ lw_all := lw_g (lw_at lw_m8 88 rfl) rfl
theorem q1875 : (Jvm.Cond.soleField "TableTowerModel" "seenLevel") ∈ lw_all := lw_g (lw_at lw_m8 89 rfl) rfl
theorem q1876 : (Jvm.Cond.laysFinal "TableTowerModel" "TableTowerModel" "seenTilt" "[I") ∈ lw_all := lw_g (lw_at lw_m8 90 rfl) rfl
theorem q1877 : (Jvm.Cond.soleField "TableTowerModel" "seenTilt") ∈ lw_all := lw_g (lw_at lw_m8 91 rfl) rfl
theorem q1878 : (Jvm.Cond.laysFinal "TableTowerModel" "TableTowerModel" "fitTable" "[I") ∈ lw_all := lw_g (lw_at lw_m8 92 rfl) rfl
theorem q1879 : (Jvm.Cond.soleField "TableTowerModel" "fitTable") ∈ lw_all := lw_g (lw_at lw_m8 93 rfl) rfl
theorem q1880 : (Jvm.Cond.laysFinal "TableTowerModel" "TableTowerModel" "fitLean" "[I") ∈ lw_all := lw_g (lw_at lw_m8 94 rfl) rfl
theorem q1881 : (Jvm.Cond.soleField "TableTowerModel" "fitLean") ∈ lw_all := lw_g (lw_at lw_m8 95 rfl) rfl
theorem q1882 : (Jvm.Cond.lays "TableTowerModel" "TableTowerModel" "fitMany" "I") ∈ lw_all := lw_g (lw_at lw_m8 96 rfl) rfl
theorem q1883 : (Jvm.Cond.soleField "TableTowerModel" "fitMany") ∈ lw_all := lw_g (lw_at lw_m8 97 rfl) rfl
theorem q1884 : (Jvm.Cond.laysFinal "TableTowerModel" "TableTowerModel" "tiltOf" "[I") ∈ lw_all := lw_g (lw_at lw_m8 98 rfl) rfl
theorem q1885 : (Jvm.Cond.soleField "TableTowerModel" "tiltOf") ∈ lw_all := lw_g (lw_at lw_m8 99 rfl) rfl
theorem q1886 : (Jvm.Cond.lays "TableTowerModel" "TableTowerModel" "seedNow" "I") ∈ lw_all := lw_g (lw_at lw_m8 100 rfl) rfl
theorem q1887 : (Jvm.Cond.soleField "TableTowerModel" "seedNow") ∈ lw_all := lw_g (lw_at lw_m8 101 rfl) rfl
theorem q1888 : (Jvm.Cond.lays "TableTowerModel" "TableTowerModel" "hasImage" "Z") ∈ lw_all := lw_g (lw_at lw_m8 102 rfl) rfl
theorem q1889 : (Jvm.Cond.soleField "TableTowerModel" "hasImage") ∈ lw_all := lw_g (lw_at lw_m8 103 rfl) rfl
theorem q1890 : (Jvm.Cond.lays "TableTowerModel" "TableTowerModel" "actsThen" "I") ∈ lw_all := lw_g (lw_at lw_m8 104 rfl) rfl
theorem q1891 : (Jvm.Cond.soleField "TableTowerModel" "actsThen") ∈ lw_all := lw_g (lw_at lw_m8 105 rfl) rfl
theorem q1892 : (Jvm.Cond.lays "TableTowerModel" "TableTowerModel" "seenThen" "I") ∈ lw_all := lw_g (lw_at lw_m8 106 rfl) rfl
theorem q1893 : (Jvm.Cond.soleField "TableTowerModel" "seenThen") ∈ lw_all := lw_g (lw_at lw_m8 107 rfl) rfl
theorem q1894 : (Jvm.Cond.laysFinal "TableTowerModel" "TableTowerModel" "imageRow" "[I") ∈ lw_all := lw_g (lw_at lw_m8 108 rfl) rfl
theorem q1895 : (Jvm.Cond.soleField "TableTowerModel" "imageRow") ∈ lw_all := lw_g (lw_at lw_m8 109 rfl) rfl
theorem q1896 : (Jvm.Cond.laysFinal "TableTowerModel" "TableTowerModel" "pastThen" "[I") ∈ lw_all := lw_g (lw_at lw_m8 110 rfl) rfl
theorem q1897 : (Jvm.Cond.soleField "TableTowerModel" "pastThen") ∈ lw_all := lw_g (lw_at lw_m8 111 rfl) rfl
theorem q1898 : (Jvm.Cond.laysFinal "TableTowerModel" "TableTowerModel" "seenLevelThen" "[I") ∈ lw_all := lw_g (lw_at lw_m8 112 rfl) rfl
theorem q1899 : (Jvm.Cond.soleField "TableTowerModel" "seenLevelThen") ∈ lw_all := lw_g (lw_at lw_m8 113 rfl) rfl
theorem q1900 : (Jvm.Cond.laysFinal "TableTowerModel" "TableTowerModel" "seenTiltThen" "[I") ∈ lw_all := lw_g (lw_at lw_m8 114 rfl) rfl
theorem q1901 : (Jvm.Cond.soleField "TableTowerModel" "seenTiltThen") ∈ lw_all := lw_g (lw_at lw_m8 115 rfl) rfl
theorem q1902 : (Jvm.Cond.laysFinal "TableTowerModel" "TableTowerModel" "statusThen" "[I") ∈ lw_all := lw_g (lw_at lw_m8 116 rfl) rfl
theorem q1903 : (Jvm.Cond.soleField "TableTowerModel" "statusThen") ∈ lw_all := lw_g (lw_at lw_m8 117 rfl) rfl
theorem q1904 : (Jvm.Cond.superclass "TableTowerModel" "java/lang/Object") ∈ lw_all := lw_g (lw_at lw_m8 118 rfl) rfl
theorem q1906 : (Jvm.Cond.instanceMethod ({ cls := "TableTowerModel", name := "thrown", desc := "()I" } : Jvm.MethodName)) ∈ lw_all := lw_g (lw_at lw_m8 120 rfl) rfl
theorem q1907 : (Jvm.Cond.selects "TableTowerModel" ({ cls := "TableTowerModel", name := "thrown", desc := "()I" } : Jvm.MethodName) ({ cls := "TableTowerModel", name := "thrown", desc := "()I" } : Jvm.MethodName)) ∈ lw_all := lw_g (lw_at lw_m8 121 rfl) rfl
theorem q1908 : (Jvm.Cond.code ({ cls := "TableTowerModel", name := "thrown", desc := "()I" } : Jvm.MethodName) prog_20_method_2_code (1 : Nat) (Option.some Jvm.ClassFile.FieldType.int)) ∈ lw_all := lw_g (lw_at lw_m8 122 rfl) rfl
theorem q1910 : (Jvm.Cond.instanceMethod ({ cls := "TableTowerModel", name := "feed", desc := "(IIIII)I" } : Jvm.MethodName)) ∈ lw_all := lw_g (lw_at lw_m8 124 rfl) rfl
theorem q1911 : (Jvm.Cond.selects "TableTowerModel" ({ cls := "TableTowerModel", name := "feed", desc := "(IIIII)I" } : Jvm.MethodName) ({ cls := "TableTowerModel", name := "feed", desc := "(IIIII)I" } : Jvm.MethodName)) ∈ lw_all := lw_g (lw_at lw_m8 125 rfl) rfl
theorem q1912 : (Jvm.Cond.code ({ cls := "TableTowerModel", name := "feed", desc := "(IIIII)I" } : Jvm.MethodName) prog_20_method_9_code (8 : Nat) (Option.some Jvm.ClassFile.FieldType.int)) ∈ lw_all := lw_g (lw_at lw_m8 126 rfl) rfl
theorem q1914 : (Jvm.Cond.instanceMethod ({ cls := "TableTowerModel", name := "town", desc := "(I)I" } : Jvm.MethodName)) ∈ lw_all := lw_g (lw_at lw_m8 128 rfl) rfl
theorem q1915 : (Jvm.Cond.selects "TableTowerModel" ({ cls := "TableTowerModel", name := "town", desc := "(I)I" } : Jvm.MethodName) ({ cls := "TableTowerModel", name := "town", desc := "(I)I" } : Jvm.MethodName)) ∈ lw_all := lw_g (lw_at lw_m8 129 rfl) rfl
theorem q1916 : (Jvm.Cond.code ({ cls := "TableTowerModel", name := "town", desc := "(I)I" } : Jvm.MethodName) prog_20_method_30_code (3 : Nat) (Option.some Jvm.ClassFile.FieldType.int)) ∈ lw_all := lw_g (lw_at lw_m8 130 rfl) rfl
theorem q1917 : (Jvm.Cond.methodLink "TableTowerModel" (269 : Nat) ({ cls := "TableTowerModel", name := "fail", desc := "(I)I" } : Jvm.MethodName)) ∈ lw_all := lw_g (lw_at lw_m8 131 rfl) rfl
theorem q1918 : (Jvm.Cond.privateMethod ({ cls := "TableTowerModel", name := "fail", desc := "(I)I" } : Jvm.MethodName)) ∈ lw_tbl := lw_at lw_m8 132 rfl
theorem q1919 : (Jvm.Cond.instanceMethod ({ cls := "TableTowerModel", name := "fail", desc := "(I)I" } : Jvm.MethodName)) ∈ lw_all := lw_g (lw_at lw_m8 133 rfl) rfl
theorem q1920 : (Jvm.Cond.code ({ cls := "TableTowerModel", name := "fail", desc := "(I)I" } : Jvm.MethodName) prog_20_method_3_code (2 : Nat) (Option.some Jvm.ClassFile.FieldType.int)) ∈ lw_all := lw_g (lw_at lw_m8 134 rfl) rfl
theorem q1921 : (Jvm.Cond.methodLink "TableTowerModel" (220 : Nat) ({ cls := "TableTowerModel", name := "stepOn", desc := "()V" } : Jvm.MethodName)) ∈ lw_all := lw_g (lw_at lw_m8 135 rfl) rfl
theorem q1922 : (Jvm.Cond.privateMethod ({ cls := "TableTowerModel", name := "stepOn", desc := "()V" } : Jvm.MethodName)) ∈ lw_tbl := lw_at lw_m8 136 rfl
theorem q1923 : (Jvm.Cond.instanceMethod ({ cls := "TableTowerModel", name := "stepOn", desc := "()V" } : Jvm.MethodName)) ∈ lw_all := lw_g (lw_at lw_m8 137 rfl) rfl
theorem q1924 : (Jvm.Cond.code ({ cls := "TableTowerModel", name := "stepOn", desc := "()V" } : Jvm.MethodName) prog_20_method_14_code (2 : Nat) (Option.none : Option Jvm.ClassFile.FieldType)) ∈ lw_all := lw_g (lw_at lw_m8 138 rfl) rfl
theorem q1925 : (Jvm.Cond.methodLink "TableTowerModel" (162 : Nat) ({ cls := "TableTowerModel", name := "byteAt", desc := "(I)I" } : Jvm.MethodName)) ∈ lw_all := lw_g (lw_at lw_m8 139 rfl) rfl
theorem q1926 : (Jvm.Cond.privateMethod ({ cls := "TableTowerModel", name := "byteAt", desc := "(I)I" } : Jvm.MethodName)) ∈ lw_tbl := lw_at lw_m8 140 rfl
theorem q1927 : (Jvm.Cond.instanceMethod ({ cls := "TableTowerModel", name := "byteAt", desc := "(I)I" } : Jvm.MethodName)) ∈ lw_all := lw_g (lw_at lw_m8 141 rfl) rfl
theorem q1928 : (Jvm.Cond.code ({ cls := "TableTowerModel", name := "byteAt", desc := "(I)I" } : Jvm.MethodName) prog_20_method_10_code (2 : Nat) (Option.some Jvm.ClassFile.FieldType.int)) ∈ lw_all := lw_g (lw_at lw_m8 142 rfl) rfl
theorem q1929 : (Jvm.Cond.methodLink "TableTowerModel" (172 : Nat) ({ cls := "TableTowerModel", name := "isLetter", desc := "(I)Z" } : Jvm.MethodName)) ∈ lw_all := lw_g (lw_at lw_m8 143 rfl) rfl
theorem q1930 : (Jvm.Cond.static ({ cls := "TableTowerModel", name := "isLetter", desc := "(I)Z" } : Jvm.MethodName)) ∈ lw_all := lw_g (lw_at lw_m8 144 rfl) rfl
theorem q1931 : (Jvm.Cond.code ({ cls := "TableTowerModel", name := "isLetter", desc := "(I)Z" } : Jvm.MethodName) prog_20_method_11_code (1 : Nat) (Option.some Jvm.ClassFile.FieldType.boolean)) ∈ lw_all := lw_g (lw_at lw_m8 145 rfl) rfl
theorem q1932 : (Jvm.Cond.methodLink "TableTowerModel" (176 : Nat) ({ cls := "TableTowerModel", name := "isDigit", desc := "(I)Z" } : Jvm.MethodName)) ∈ lw_all := lw_g (lw_at lw_m8 146 rfl) rfl
theorem q1933 : (Jvm.Cond.static ({ cls := "TableTowerModel", name := "isDigit", desc := "(I)Z" } : Jvm.MethodName)) ∈ lw_all := lw_g (lw_at lw_m8 147 rfl) rfl
theorem q1934 : (Jvm.Cond.code ({ cls := "TableTowerModel", name := "isDigit", desc := "(I)Z" } : Jvm.MethodName) prog_20_method_12_code (1 : Nat) (Option.some Jvm.ClassFile.FieldType.boolean)) ∈ lw_all := lw_g (lw_at lw_m8 148 rfl) rfl
theorem q1935 : (Jvm.Cond.constant "TableTowerModel" (182 : Nat) (100000 : Int32)) ∈ lw_all := lw_g (lw_at lw_m8 149 rfl) rfl
theorem q1936 : (Jvm.Cond.methodLink "TableTowerModel" (183 : Nat) ({ cls := "java/lang/Math", name := "min", desc := "(II)I" } : Jvm.MethodName)) ∈ lw_all := lw_g (lw_at lw_m8 150 rfl) rfl
theorem q1937 : (Jvm.Cond.methodLink "TableTowerModel" (189 : Nat) ({ cls := "TableTowerModel", name := "isMark", desc := "(I)Z" } : Jvm.MethodName)) ∈ lw_all := lw_g (lw_at lw_m8 151 rfl) rfl
theorem q1938 : (Jvm.Cond.static ({ cls := "TableTowerModel", name := "isMark", desc := "(I)Z" } : Jvm.MethodName)) ∈ lw_all := lw_g (lw_at lw_m8 152 rfl) rfl
theorem q1939 : (Jvm.Cond.code ({ cls := "TableTowerModel", name := "isMark", desc := "(I)Z" } : Jvm.MethodName) prog_20_method_13_code (1 : Nat) (Option.some Jvm.ClassFile.FieldType.boolean)) ∈ lw_all := lw_g (lw_at lw_m8 153 rfl) rfl
theorem q1940 : (Jvm.Cond.methodLink "TableTowerModel" (272 : Nat) ({ cls := "TableTowerModel", name := "readLine", desc := "(I)I" } : Jvm.MethodName)) ∈ lw_all := lw_g (lw_at lw_m8 154 rfl) rfl
theorem q1941 : (Jvm.Cond.privateMethod ({ cls := "TableTowerModel", name := "readLine", desc := "(I)I" } : Jvm.MethodName)) ∈ lw_tbl := lw_at lw_m8 155 rfl
theorem q1942 : (Jvm.Cond.instanceMethod ({ cls := "TableTowerModel", name := "readLine", desc := "(I)I" } : Jvm.MethodName)) ∈ lw_all := lw_g (lw_at lw_m8 156 rfl) rfl
theorem q1943 : (Jvm.Cond.code ({ cls := "TableTowerModel", name := "readLine", desc := "(I)I" } : Jvm.MethodName) prog_20_method_29_code (4 : Nat) (Option.some Jvm.ClassFile.FieldType.int)) ∈ lw_all := lw_g (lw_at lw_m8 157 rfl) rfl
theorem q1944 : (Jvm.Cond.stringRef "TableTowerModel" (260 : Nat) "limit") ∈ lw_tbl := lw_at lw_m8 158 rfl
theorem q1945 : (Jvm.Cond.methodLink "TableTowerModel" (209 : Nat) ({ cls := "TableTowerModel", name := "is", desc := "(Ljava/lang/String;)Z" } : Jvm.MethodName)) ∈ lw_all := lw_g (lw_at lw_m8 159 rfl) rfl
theorem q1946 : (Jvm.Cond.privateMethod ({ cls := "TableTowerModel", name := "is", desc := "(Ljava/lang/String;)Z" } : Jvm.MethodName)) ∈ lw_tbl := lw_at lw_m8 160 rfl
theorem q1947 : (Jvm.Cond.instanceMethod ({ cls := "TableTowerModel", name := "is", desc := "(Ljava/lang/String;)Z" } : Jvm.MethodName)) ∈ lw_all := lw_g (lw_at lw_m8 161 rfl) rfl
theorem q1948 : (Jvm.Cond.code ({ cls := "TableTowerModel", name := "is", desc := "(Ljava/lang/String;)Z" } : Jvm.MethodName) prog_20_method_16_code (4 : Nat) (Option.some Jvm.ClassFile.FieldType.boolean)) ∈ lw_all := lw_g (lw_at lw_m8 162 rfl) rfl
theorem q1949 : (Jvm.Cond.methodLink "TableTowerModel" (201 : Nat) ({ cls := "java/lang/String", name := "length", desc := "()I" } : Jvm.MethodName)) ∈ lw_all := lw_g (lw_at lw_m8 163 rfl) rfl
theorem q1950 : (Jvm.Cond.methodLink "TableTowerModel" (205 : Nat) ({ cls := "java/lang/String", name := "charAt", desc := "(I)C" } : Jvm.MethodName)) ∈ lw_all := lw_g (lw_at lw_m8 164 rfl) rfl
theorem q1951 : (Jvm.Cond.stringRef "TableTowerModel" (262 : Nat) "food") ∈ lw_tbl := lw_at lw_m8 165 rfl
theorem q1952 : (Jvm.Cond.stringRef "TableTowerModel" (264 : Nat) "takes") ∈ lw_tbl := lw_at lw_m8 166 rfl
theorem q1953 : (Jvm.Cond.methodLink "TableTowerModel" (229 : Nat) ({ cls := "TableTowerModel", name := "wordOf", desc := "([Ljava/lang/String;)I" } : Jvm.MethodName)) ∈ lw_all := lw_g (lw_at lw_m8 167 rfl) rfl
theorem q1954 : (Jvm.Cond.privateMethod ({ cls := "TableTowerModel", name := "wordOf", desc := "([Ljava/lang/String;)I" } : Jvm.MethodName)) ∈ lw_tbl := lw_at lw_m8 168 rfl
theorem q1955 : (Jvm.Cond.instanceMethod ({ cls := "TableTowerModel", name := "wordOf", desc := "([Ljava/lang/String;)I" } : Jvm.MethodName)) ∈ lw_all := lw_g (lw_at lw_m8 169 rfl) rfl
theorem q1956 : (Jvm.Cond.code ({ cls := "TableTowerModel", name := "wordOf", desc := "([Ljava/lang/String;)I" } : Jvm.MethodName) prog_20_method_17_code (3 : Nat) (Option.some Jvm.ClassFile.FieldType.int)) ∈ lw_all := lw_g (lw_at lw_m8 170 rfl) rfl
theorem q1957 : (Jvm.Cond.methodLink "TableTowerModel" (216 : Nat) ({ cls := "TableTowerModel", name := "wrong", desc := "(I)V" } : Jvm.MethodName)) ∈ lw_all := lw_g (lw_at lw_m8 171 rfl) rfl
theorem q1958 : (Jvm.Cond.privateMethod ({ cls := "TableTowerModel", name := "wrong", desc := "(I)V" } : Jvm.MethodName)) ∈ lw_tbl := lw_at lw_m8 172 rfl
theorem q1959 : (Jvm.Cond.instanceMethod ({ cls := "TableTowerModel", name := "wrong", desc := "(I)V" } : Jvm.MethodName)) ∈ lw_all := lw_g (lw_at lw_m8 173 rfl) rfl
theorem q1960 : (Jvm.Cond.code ({ cls := "TableTowerModel", name := "wrong", desc := "(I)V" } : Jvm.MethodName) prog_20_method_15_code (2 : Nat) (Option.none : Option Jvm.ClassFile.FieldType)) ∈ lw_all := lw_g (lw_at lw_m8 174 rfl) rfl
theorem q1961 : (Jvm.Cond.methodLink "TableTowerModel" (223 : Nat) ({ cls := "TableTowerModel", name := "readNumber", desc := "(II)I" } : Jvm.MethodName)) ∈ lw_all := lw_g (lw_at lw_m8 175 rfl) rfl
theorem q1962 : (Jvm.Cond.privateMethod ({ cls := "TableTowerModel", name := "readNumber", desc := "(II)I" } : Jvm.MethodName)) ∈ lw_tbl := lw_at lw_m8 176 rfl
theorem q1963 : (Jvm.Cond.instanceMethod ({ cls := "TableTowerModel", name := "readNumber", desc := "(II)I" } : Jvm.MethodName)) ∈ lw_all := lw_g (lw_at lw_m8 177 rfl) rfl
theorem q1964 : (Jvm.Cond.code ({ cls := "TableTowerModel", name := "readNumber", desc := "(II)I" } : Jvm.MethodName) prog_20_method_20_code (4 : Nat) (Option.some Jvm.ClassFile.FieldType.int)) ∈ lw_all := lw_g (lw_at lw_m8 178 rfl) rfl
theorem q1965 : (Jvm.Cond.methodLink "TableTowerModel" (236 : Nat) ({ cls := "TableTowerModel", name := "readExpression", desc := "(I)V" } : Jvm.MethodName)) ∈ lw_all := lw_g (lw_at lw_m8 179 rfl) rfl
theorem q1966 : (Jvm.Cond.privateMethod ({ cls := "TableTowerModel", name := "readExpression", desc := "(I)V" } : Jvm.MethodName)) ∈ lw_tbl := lw_at lw_m8 180 rfl
theorem q1967 : (Jvm.Cond.instanceMethod ({ cls := "TableTowerModel", name := "readExpression", desc := "(I)V" } : Jvm.MethodName)) ∈ lw_all := lw_g (lw_at lw_m8 181 rfl) rfl
theorem q1968 : (Jvm.Cond.code ({ cls := "TableTowerModel", name := "readExpression", desc := "(I)V" } : Jvm.MethodName) prog_20_method_27_code (3 : Nat) (Option.none : Option Jvm.ClassFile.FieldType)) ∈ lw_all := lw_g (lw_at lw_m8 182 rfl) rfl
theorem q1969 : (Jvm.Cond.methodLink "TableTowerModel" (213 : Nat) ({ cls := "TableTowerModel", name := "isMarked", desc := "(I)Z" } : Jvm.MethodName)) ∈ lw_all := lw_g (lw_at lw_m8 183 rfl) rfl
theorem q1970 : (Jvm.Cond.privateMethod ({ cls := "TableTowerModel", name := "isMarked", desc := "(I)Z" } : Jvm.MethodName)) ∈ lw_tbl := lw_at lw_m8 184 rfl
theorem q1971 : (Jvm.Cond.instanceMethod ({ cls := "TableTowerModel", name := "isMarked", desc := "(I)Z" } : Jvm.MethodName)) ∈ lw_all := lw_g (lw_at lw_m8 185 rfl) rfl
theorem q1972 : (Jvm.Cond.code ({ cls := "TableTowerModel", name := "isMarked", desc := "(I)Z" } : Jvm.MethodName) prog_20_method_18_code (2 : Nat) (Option.some Jvm.ClassFile.FieldType.boolean)) ∈ lw_all := lw_g (lw_at lw_m8 186 rfl) rfl
theorem q1973 : (Jvm.Cond.methodLink "TableTowerModel" (255 : Nat) ({ cls := "TableTowerModel", name := "readAnd", desc := "(I)V" } : Jvm.MethodName)) ∈ lw_all := lw_g (lw_at lw_m8 187 rfl) rfl
theorem q1974 : (Jvm.Cond.privateMethod ({ cls := "TableTowerModel", name := "readAnd", desc := "(I)V" } : Jvm.MethodName)) ∈ lw_tbl := lw_at lw_m8 188 rfl
theorem q1975 : (Jvm.Cond.instanceMethod ({ cls := "TableTowerModel", name := "readAnd", desc := "(I)V" } : Jvm.MethodName)) ∈ lw_all := lw_g (lw_at lw_m8 189 rfl) rfl
theorem q1976 : (Jvm.Cond.code ({ cls := "TableTowerModel", name := "readAnd", desc := "(I)V" } : Jvm.MethodName) prog_20_method_26_code (2 : Nat) (Option.none : Option Jvm.ClassFile.FieldType)) ∈ lw_all := lw_g (lw_at lw_m8 190 rfl) rfl
theorem q1977 : (Jvm.Cond.methodLink "TableTowerModel" (250 : Nat) ({ cls := "TableTowerModel", name := "readNot", desc := "(I)V" } : Jvm.MethodName)) ∈ lw_all := lw_g (lw_at lw_m8 191 rfl) rfl
theorem q1978 : (Jvm.Cond.privateMethod ({ cls := "TableTowerModel", name := "readNot", desc := "(I)V" } : Jvm.MethodName)) ∈ lw_tbl := lw_at lw_m8 192 rfl
theorem q1979 : (Jvm.Cond.instanceMethod ({ cls := "TableTowerModel", name := "readNot", desc := "(I)V" } : Jvm.MethodName)) ∈ lw_all := lw_g (lw_at lw_m8 193 rfl) rfl
theorem q1980 : (Jvm.Cond.code ({ cls := "TableTowerModel", name := "readNot", desc := "(I)V" } : Jvm.MethodName) prog_20_method_25_code (4 : Nat) (Option.none : Option Jvm.ClassFile.FieldType)) ∈ lw_all := lw_g (lw_at lw_m8 194 rfl) rfl
theorem q1981 : (Jvm.Cond.stringRef "TableTowerModel" (245 : Nat) "not") ∈ lw_tbl := lw_at lw_m8 195 rfl
theorem q1982 : (Jvm.Cond.methodLink "TableTowerModel" (247 : Nat) ({ cls := "TableTowerModel", name := "readSum", desc := "(I)V" } : Jvm.MethodName)) ∈ lw_all := lw_g (lw_at lw_m8 196 rfl) rfl
theorem q1983 : (Jvm.Cond.privateMethod ({ cls := "TableTowerModel", name := "readSum", desc := "(I)V" } : Jvm.MethodName)) ∈ lw_tbl := lw_at lw_m8 197 rfl
theorem q1984 : (Jvm.Cond.instanceMethod ({ cls := "TableTowerModel", name := "readSum", desc := "(I)V" } : Jvm.MethodName)) ∈ lw_all := lw_g (lw_at lw_m8 198 rfl) rfl
theorem q1985 : (Jvm.Cond.code ({ cls := "TableTowerModel", name := "readSum", desc := "(I)V" } : Jvm.MethodName) prog_20_method_24_code (3 : Nat) (Option.none : Option Jvm.ClassFile.FieldType)) ∈ lw_all := lw_g (lw_at lw_m8 199 rfl) rfl
theorem q1986 : (Jvm.Cond.methodLink "TableTowerModel" (242 : Nat) ({ cls := "TableTowerModel", name := "readProduct", desc := "(I)V" } : Jvm.MethodName)) ∈ lw_all := lw_g (lw_at lw_m8 200 rfl) rfl
theorem q1987 : (Jvm.Cond.privateMethod ({ cls := "TableTowerModel", name := "readProduct", desc := "(I)V" } : Jvm.MethodName)) ∈ lw_tbl := lw_at lw_m8 201 rfl
theorem q1988 : (Jvm.Cond.instanceMethod ({ cls := "TableTowerModel", name := "readProduct", desc := "(I)V" } : Jvm.MethodName)) ∈ lw_all := lw_g (lw_at lw_m8 202 rfl) rfl
theorem q1989 : (Jvm.Cond.code ({ cls := "TableTowerModel", name := "readProduct", desc := "(I)V" } : Jvm.MethodName) prog_20_method_23_code (3 : Nat) (Option.none : Option Jvm.ClassFile.FieldType)) ∈ lw_all := lw_g (lw_at lw_m8 203 rfl) rfl
theorem q1990 : (Jvm.Cond.methodLink "TableTowerModel" (239 : Nat) ({ cls := "TableTowerModel", name := "readPart", desc := "(I)V" } : Jvm.MethodName)) ∈ lw_all := lw_g (lw_at lw_m8 204 rfl) rfl
theorem q1991 : (Jvm.Cond.privateMethod ({ cls := "TableTowerModel", name := "readPart", desc := "(I)V" } : Jvm.MethodName)) ∈ lw_tbl := lw_at lw_m8 205 rfl
theorem q1992 : (Jvm.Cond.instanceMethod ({ cls := "TableTowerModel", name := "readPart", desc := "(I)V" } : Jvm.MethodName)) ∈ lw_all := lw_g (lw_at lw_m8 206 rfl) rfl
theorem q1993 : (Jvm.Cond.code ({ cls := "TableTowerModel", name := "readPart", desc := "(I)V" } : Jvm.MethodName) prog_20_method_22_code (3 : Nat) (Option.none : Option Jvm.ClassFile.FieldType)) ∈ lw_all := lw_g (lw_at lw_m8 207 rfl) rfl
theorem q1994 : (Jvm.Cond.methodLink "TableTowerModel" (226 : Nat) ({ cls := "TableTowerModel", name := "lay", desc := "(I)V" } : Jvm.MethodName)) ∈ lw_all := lw_g (lw_at lw_m8 208 rfl) rfl
theorem q1995 : (Jvm.Cond.privateMethod ({ cls := "TableTowerModel", name := "lay", desc := "(I)V" } : Jvm.MethodName)) ∈ lw_tbl := lw_at lw_m8 209 rfl
theorem q1996 : (Jvm.Cond.instanceMethod ({ cls := "TableTowerModel", name := "lay", desc := "(I)V" } : Jvm.MethodName)) ∈ lw_all := lw_g (lw_at lw_m8 210 rfl) rfl
theorem q1997 : (Jvm.Cond.code ({ cls := "TableTowerModel", name := "lay", desc := "(I)V" } : Jvm.MethodName) prog_20_method_21_code (2 : Nat) (Option.none : Option Jvm.ClassFile.FieldType)) ∈ lw_all := lw_g (lw_at lw_m8 211 rfl) rfl
theorem q1998 : (Jvm.Cond.methodLink "TableTowerModel" (233 : Nat) ({ cls := "TableTowerModel", name := "mark", desc := "(I)V" } : Jvm.MethodName)) ∈ lw_all := lw_g (lw_at lw_m8 212 rfl) rfl
theorem q1999 : (Jvm.Cond.privateMethod ({ cls := "TableTowerModel", name := "mark", desc := "(I)V" } : Jvm.MethodName)) ∈ lw_tbl := lw_at lw_m8 213 rfl
theorem q2000 : (Jvm.Cond.instanceMethod ({ cls := "TableTowerModel", name := "mark", desc := "(I)V" } : Jvm.MethodName)) ∈ lw_all := lw_g (lw_at lw_m8 214 rfl) rfl
theorem q2001 : (Jvm.Cond.code ({ cls := "TableTowerModel", name := "mark", desc := "(I)V" } : Jvm.MethodName) prog_20_method_19_code (2 : Nat) (Option.none : Option Jvm.ClassFile.FieldType)) ∈ lw_all := lw_g (lw_at lw_m8 215 rfl) rfl
theorem q2002 : (Jvm.Cond.stringRef "TableTowerModel" (253 : Nat) "and") ∈ lw_tbl := lw_at lw_m8 216 rfl
theorem q2003 : (Jvm.Cond.stringRef "TableTowerModel" (258 : Nat) "or") ∈ lw_tbl := lw_at lw_m8 217 rfl
theorem q2004 : (Jvm.Cond.methodLink "TableTowerModel" (266 : Nat) ({ cls := "TableTowerModel", name := "readTable", desc := "(I)V" } : Jvm.MethodName)) ∈ lw_all := lw_g (lw_at lw_m8 218 rfl) rfl
theorem q2005 : (Jvm.Cond.privateMethod ({ cls := "TableTowerModel", name := "readTable", desc := "(I)V" } : Jvm.MethodName)) ∈ lw_tbl := lw_at lw_m8 219 rfl
theorem q2006 : (Jvm.Cond.instanceMethod ({ cls := "TableTowerModel", name := "readTable", desc := "(I)V" } : Jvm.MethodName)) ∈ lw_all := lw_g (lw_at lw_m8 220 rfl) rfl
theorem q2007 : (Jvm.Cond.code ({ cls := "TableTowerModel", name := "readTable", desc := "(I)V" } : Jvm.MethodName) prog_20_method_28_code (5 : Nat) (Option.none : Option Jvm.ClassFile.FieldType)) ∈ lw_all := lw_g (lw_at lw_m8 221 rfl) rfl
theorem q2008 : (Jvm.Cond.methodLink "TableTowerModel" (275 : Nat) ({ cls := "TableTowerModel", name := "takeOver", desc := "()V" } : Jvm.MethodName)) ∈ lw_all := lw_g (lw_at lw_m8 222 rfl) rfl
theorem q2009 : (Jvm.Cond.privateMethod ({ cls := "TableTowerModel", name := "takeOver", desc := "()V" } : Jvm.MethodName)) ∈ lw_tbl := lw_at lw_m8 223 rfl
theorem q2010 : (Jvm.Cond.instanceMethod ({ cls := "TableTowerModel", name := "takeOver", desc := "()V" } : Jvm.MethodName)) ∈ lw_all := lw_g (lw_at lw_m8 224 rfl) rfl
theorem q2011 : (Jvm.Cond.code ({ cls := "TableTowerModel", name := "takeOver", desc := "()V" } : Jvm.MethodName) prog_20_method_32_code (2 : Nat) (Option.none : Option Jvm.ClassFile.FieldType)) ∈ lw_all := lw_g (lw_at lw_m8 225 rfl) rfl
theorem q2012 : (Jvm.Cond.methodLink "TableTowerModel" (278 : Nat) ({ cls := "TableTowerModel", name := "takeHalf", desc := "([I)V" } : Jvm.MethodName)) ∈ lw_all := lw_g (lw_at lw_m8 226 rfl) rfl
theorem q2013 : (Jvm.Cond.static ({ cls := "TableTowerModel", name := "takeHalf", desc := "([I)V" } : Jvm.MethodName)) ∈ lw_all := lw_g (lw_at lw_m8 227 rfl) rfl
theorem q2014 : (Jvm.Cond.code ({ cls := "TableTowerModel", name := "takeHalf", desc := "([I)V" } : Jvm.MethodName) prog_20_method_31_code (2 : Nat) (Option.none : Option Jvm.ClassFile.FieldType)) ∈ lw_all := lw_g (lw_at lw_m8 228 rfl) rfl
theorem q2016 : (Jvm.Cond.instanceMethod ({ cls := "TableTowerModel", name := "fault", desc := "()I" } : Jvm.MethodName)) ∈ lw_all := lw_g (lw_at lw_m8 230 rfl) rfl
theorem q2017 : (Jvm.Cond.selects "TableTowerModel" ({ cls := "TableTowerModel", name := "fault", desc := "()I" } : Jvm.MethodName) ({ cls := "TableTowerModel", name := "fault", desc := "()I" } : Jvm.MethodName)) ∈ lw_all := lw_g (lw_at lw_m8 231 rfl) rfl
theorem q2018 : (Jvm.Cond.code ({ cls := "TableTowerModel", name := "fault", desc := "()I" } : Jvm.MethodName) prog_20_method_33_code (1 : Nat) (Option.some Jvm.ClassFile.FieldType.int)) ∈ lw_all := lw_g (lw_at lw_m8 232 rfl) rfl
theorem q2020 : (Jvm.Cond.instanceMethod ({ cls := "TableTowerModel", name := "count", desc := "(I)I" } : Jvm.MethodName)) ∈ lw_all := lw_g (lw_at lw_m8 234 rfl) rfl
theorem q2021 : (Jvm.Cond.selects "TableTowerModel" ({ cls := "TableTowerModel", name := "count", desc := "(I)I" } : Jvm.MethodName) ({ cls := "TableTowerModel", name := "count", desc := "(I)I" } : Jvm.MethodName)) ∈ lw_all := lw_g (lw_at lw_m8 235 rfl) rfl
theorem q2022 : (Jvm.Cond.code ({ cls := "TableTowerModel", name := "count", desc := "(I)I" } : Jvm.MethodName) prog_20_method_49_code (2 : Nat) (Option.some Jvm.ClassFile.FieldType.int)) ∈ lw_all := lw_g (lw_at lw_m8 236 rfl) rfl
theorem q2023 : (Jvm.Cond.methodLink "TableTowerModel" (326 : Nat) ({ cls := "TableTowerModel", name := "stands", desc := "()Z" } : Jvm.MethodName)) ∈ lw_all := lw_g (lw_at lw_m8 237 rfl) rfl
theorem q2024 : (Jvm.Cond.privateMethod ({ cls := "TableTowerModel", name := "stands", desc := "()Z" } : Jvm.MethodName)) ∈ lw_tbl := lw_at lw_m8 238 rfl
theorem q2025 : (Jvm.Cond.instanceMethod ({ cls := "TableTowerModel", name := "stands", desc := "()Z" } : Jvm.MethodName)) ∈ lw_all := lw_g (lw_at lw_m8 239 rfl) rfl
theorem q2026 : (Jvm.Cond.code ({ cls := "TableTowerModel", name := "stands", desc := "()Z" } : Jvm.MethodName) prog_20_method_45_code (1 : Nat) (Option.some Jvm.ClassFile.FieldType.boolean)) ∈ lw_all := lw_g (lw_at lw_m9 0 rfl) rfl
theorem q2027 : (Jvm.Cond.methodLink "TableTowerModel" (323 : Nat) ({ cls := "TableTowerModel", name := "breaksAt", desc := "()I" } : Jvm.MethodName)) ∈ lw_all := lw_g (lw_at lw_m9 1 rfl) rfl
theorem q2028 : (Jvm.Cond.privateMethod ({ cls := "TableTowerModel", name := "breaksAt", desc := "()I" } : Jvm.MethodName)) ∈ lw_tbl := lw_at lw_m9 2 rfl
theorem q2029 : (Jvm.Cond.instanceMethod ({ cls := "TableTowerModel", name := "breaksAt", desc := "()I" } : Jvm.MethodName)) ∈ lw_all := lw_g (lw_at lw_m9 3 rfl) rfl
theorem q2030 : (Jvm.Cond.code ({ cls := "TableTowerModel", name := "breaksAt", desc := "()I" } : Jvm.MethodName) prog_20_method_44_code (2 : Nat) (Option.some Jvm.ClassFile.FieldType.int)) ∈ lw_all := lw_g (lw_at lw_m9 4 rfl) rfl
theorem q2031 : (Jvm.Cond.methodLink "TableTowerModel" (320 : Nat) ({ cls := "TableTowerModel", name := "isHeld", desc := "(I)Z" } : Jvm.MethodName)) ∈ lw_all := lw_g (lw_at lw_m9 5 rfl) rfl
theorem q2032 : (Jvm.Cond.privateMethod ({ cls := "TableTowerModel", name := "isHeld", desc := "(I)Z" } : Jvm.MethodName)) ∈ lw_tbl := lw_at lw_m9 6 rfl
theorem q2033 : (Jvm.Cond.instanceMethod ({ cls := "TableTowerModel", name := "isHeld", desc := "(I)Z" } : Jvm.MethodName)) ∈ lw_all := lw_g (lw_at lw_m9 7 rfl) rfl
theorem q2034 : (Jvm.Cond.code ({ cls := "TableTowerModel", name := "isHeld", desc := "(I)Z" } : Jvm.MethodName) prog_20_method_43_code (2 : Nat) (Option.some Jvm.ClassFile.FieldType.boolean)) ∈ lw_all := lw_g (lw_at lw_m9 8 rfl) rfl
theorem q2035 : (Jvm.Cond.methodLink "TableTowerModel" (308 : Nat) ({ cls := "TableTowerModel", name := "loadOn", desc := "(I)I" } : Jvm.MethodName)) ∈ lw_all := lw_g (lw_at lw_m9 9 rfl) rfl
theorem q2036 : (Jvm.Cond.privateMethod ({ cls := "TableTowerModel", name := "loadOn", desc := "(I)I" } : Jvm.MethodName)) ∈ lw_tbl := lw_at lw_m9 10 rfl
theorem q2037 : (Jvm.Cond.instanceMethod ({ cls := "TableTowerModel", name := "loadOn", desc := "(I)I" } : Jvm.MethodName)) ∈ lw_all := lw_g (lw_at lw_m9 11 rfl) rfl
theorem q2038 : (Jvm.Cond.code ({ cls := "TableTowerModel", name := "loadOn", desc := "(I)I" } : Jvm.MethodName) prog_20_method_40_code (4 : Nat) (Option.some Jvm.ClassFile.FieldType.int)) ∈ lw_all := lw_g (lw_at lw_m9 12 rfl) rfl
theorem q2039 : (Jvm.Cond.methodLink "TableTowerModel" (311 : Nat) ({ cls := "TableTowerModel", name := "carriedBy", desc := "(I)I" } : Jvm.MethodName)) ∈ lw_all := lw_g (lw_at lw_m9 13 rfl) rfl
theorem q2040 : (Jvm.Cond.privateMethod ({ cls := "TableTowerModel", name := "carriedBy", desc := "(I)I" } : Jvm.MethodName)) ∈ lw_tbl := lw_at lw_m9 14 rfl
theorem q2041 : (Jvm.Cond.instanceMethod ({ cls := "TableTowerModel", name := "carriedBy", desc := "(I)I" } : Jvm.MethodName)) ∈ lw_all := lw_g (lw_at lw_m9 15 rfl) rfl
theorem q2042 : (Jvm.Cond.code ({ cls := "TableTowerModel", name := "carriedBy", desc := "(I)I" } : Jvm.MethodName) prog_20_method_41_code (2 : Nat) (Option.some Jvm.ClassFile.FieldType.int)) ∈ lw_all := lw_g (lw_at lw_m9 16 rfl) rfl
theorem q2043 : (Jvm.Cond.methodLink "TableTowerModel" (301 : Nat) ({ cls := "TableTowerModel", name := "carries", desc := "(IZ)I" } : Jvm.MethodName)) ∈ lw_all := lw_g (lw_at lw_m9 17 rfl) rfl
theorem q2044 : (Jvm.Cond.privateMethod ({ cls := "TableTowerModel", name := "carries", desc := "(IZ)I" } : Jvm.MethodName)) ∈ lw_tbl := lw_at lw_m9 18 rfl
theorem q2045 : (Jvm.Cond.instanceMethod ({ cls := "TableTowerModel", name := "carries", desc := "(IZ)I" } : Jvm.MethodName)) ∈ lw_all := lw_g (lw_at lw_m9 19 rfl) rfl
theorem q2046 : (Jvm.Cond.code ({ cls := "TableTowerModel", name := "carries", desc := "(IZ)I" } : Jvm.MethodName) prog_20_method_38_code (4 : Nat) (Option.some Jvm.ClassFile.FieldType.int)) ∈ lw_all := lw_g (lw_at lw_m9 20 rfl) rfl
theorem q2047 : (Jvm.Cond.methodLink "TableTowerModel" (295 : Nat) ({ cls := "TableTowerModel", name := "worm", desc := "(I)I" } : Jvm.MethodName)) ∈ lw_all := lw_g (lw_at lw_m9 21 rfl) rfl
theorem q2048 : (Jvm.Cond.privateMethod ({ cls := "TableTowerModel", name := "worm", desc := "(I)I" } : Jvm.MethodName)) ∈ lw_tbl := lw_at lw_m9 22 rfl
theorem q2049 : (Jvm.Cond.instanceMethod ({ cls := "TableTowerModel", name := "worm", desc := "(I)I" } : Jvm.MethodName)) ∈ lw_all := lw_g (lw_at lw_m9 23 rfl) rfl
theorem q2050 : (Jvm.Cond.code ({ cls := "TableTowerModel", name := "worm", desc := "(I)I" } : Jvm.MethodName) prog_20_method_37_code (2 : Nat) (Option.some Jvm.ClassFile.FieldType.int)) ∈ lw_all := lw_g (lw_at lw_m9 24 rfl) rfl
theorem q2051 : (Jvm.Cond.methodLink "TableTowerModel" (298 : Nat) ({ cls := "java/lang/Math", name := "max", desc := "(II)I" } : Jvm.MethodName)) ∈ lw_all := lw_g (lw_at lw_m9 25 rfl) rfl
theorem q2052 : (Jvm.Cond.methodLink "TableTowerModel" (314 : Nat) ({ cls := "TableTowerModel", name := "tiltAt", desc := "(I)I" } : Jvm.MethodName)) ∈ lw_all := lw_g (lw_at lw_m9 26 rfl) rfl
theorem q2053 : (Jvm.Cond.privateMethod ({ cls := "TableTowerModel", name := "tiltAt", desc := "(I)I" } : Jvm.MethodName)) ∈ lw_tbl := lw_at lw_m9 27 rfl
theorem q2054 : (Jvm.Cond.instanceMethod ({ cls := "TableTowerModel", name := "tiltAt", desc := "(I)I" } : Jvm.MethodName)) ∈ lw_all := lw_g (lw_at lw_m9 28 rfl) rfl
theorem q2055 : (Jvm.Cond.code ({ cls := "TableTowerModel", name := "tiltAt", desc := "(I)I" } : Jvm.MethodName) prog_20_method_42_code (4 : Nat) (Option.some Jvm.ClassFile.FieldType.int)) ∈ lw_all := lw_g (lw_at lw_m9 29 rfl) rfl
theorem q2056 : (Jvm.Cond.methodLink "TableTowerModel" (305 : Nat) ({ cls := "TableTowerModel", name := "turns", desc := "(I)I" } : Jvm.MethodName)) ∈ lw_all := lw_g (lw_at lw_m9 30 rfl) rfl
theorem q2057 : (Jvm.Cond.privateMethod ({ cls := "TableTowerModel", name := "turns", desc := "(I)I" } : Jvm.MethodName)) ∈ lw_tbl := lw_at lw_m9 31 rfl
theorem q2058 : (Jvm.Cond.instanceMethod ({ cls := "TableTowerModel", name := "turns", desc := "(I)I" } : Jvm.MethodName)) ∈ lw_all := lw_g (lw_at lw_m9 32 rfl) rfl
theorem q2059 : (Jvm.Cond.code ({ cls := "TableTowerModel", name := "turns", desc := "(I)I" } : Jvm.MethodName) prog_20_method_39_code (2 : Nat) (Option.some Jvm.ClassFile.FieldType.int)) ∈ lw_all := lw_g (lw_at lw_m9 33 rfl) rfl
theorem q2060 : (Jvm.Cond.methodLink "TableTowerModel" (317 : Nat) ({ cls := "java/lang/Math", name := "abs", desc := "(I)I" } : Jvm.MethodName)) ∈ lw_all := lw_g (lw_at lw_m9 34 rfl) rfl
theorem q2061 : (Jvm.Cond.methodLink "TableTowerModel" (330 : Nat) ({ cls := "TableTowerModel", name := "fullNow", desc := "()I" } : Jvm.MethodName)) ∈ lw_all := lw_g (lw_at lw_m9 35 rfl) rfl
theorem q2062 : (Jvm.Cond.privateMethod ({ cls := "TableTowerModel", name := "fullNow", desc := "()I" } : Jvm.MethodName)) ∈ lw_tbl := lw_at lw_m9 36 rfl
theorem q2063 : (Jvm.Cond.instanceMethod ({ cls := "TableTowerModel", name := "fullNow", desc := "()I" } : Jvm.MethodName)) ∈ lw_all := lw_g (lw_at lw_m9 37 rfl) rfl
theorem q2064 : (Jvm.Cond.code ({ cls := "TableTowerModel", name := "fullNow", desc := "()I" } : Jvm.MethodName) prog_20_method_47_code (3 : Nat) (Option.some Jvm.ClassFile.FieldType.int)) ∈ lw_all := lw_g (lw_at lw_m9 38 rfl) rfl
theorem q2066 : (Jvm.Cond.instanceMethod ({ cls := "TableTowerModel", name := "table", desc := "(II)I" } : Jvm.MethodName)) ∈ lw_all := lw_g (lw_at lw_m9 40 rfl) rfl
theorem q2067 : (Jvm.Cond.selects "TableTowerModel" ({ cls := "TableTowerModel", name := "table", desc := "(II)I" } : Jvm.MethodName) ({ cls := "TableTowerModel", name := "table", desc := "(II)I" } : Jvm.MethodName)) ∈ lw_all := lw_g (lw_at lw_m9 41 rfl) rfl
theorem q2068 : (Jvm.Cond.code ({ cls := "TableTowerModel", name := "table", desc := "(II)I" } : Jvm.MethodName) prog_20_method_50_code (3 : Nat) (Option.some Jvm.ClassFile.FieldType.int)) ∈ lw_all := lw_g (lw_at lw_m9 42 rfl) rfl
theorem q2069 : (Jvm.Cond.methodLink "TableTowerModel" (333 : Nat) ({ cls := "TableTowerModel", name := "isTable", desc := "(I)Z" } : Jvm.MethodName)) ∈ lw_all := lw_g (lw_at lw_m9 43 rfl) rfl
theorem q2070 : (Jvm.Cond.privateMethod ({ cls := "TableTowerModel", name := "isTable", desc := "(I)Z" } : Jvm.MethodName)) ∈ lw_tbl := lw_at lw_m9 44 rfl
theorem q2071 : (Jvm.Cond.instanceMethod ({ cls := "TableTowerModel", name := "isTable", desc := "(I)Z" } : Jvm.MethodName)) ∈ lw_all := lw_g (lw_at lw_m9 45 rfl) rfl
theorem q2072 : (Jvm.Cond.code ({ cls := "TableTowerModel", name := "isTable", desc := "(I)Z" } : Jvm.MethodName) prog_20_method_7_code (2 : Nat) (Option.some Jvm.ClassFile.FieldType.boolean)) ∈ lw_all := lw_g (lw_at lw_m9 46 rfl) rfl
theorem q2073 : (Jvm.Cond.methodLink "TableTowerModel" (146 : Nat) ({ cls := "TableTowerModel", name := "isIn", desc := "(JJJ)Z" } : Jvm.MethodName)) ∈ lw_all := lw_g (lw_at lw_m9 47 rfl) rfl
theorem q2074 : (Jvm.Cond.static ({ cls := "TableTowerModel", name := "isIn", desc := "(JJJ)Z" } : Jvm.MethodName)) ∈ lw_all := lw_g (lw_at lw_m9 48 rfl) rfl
theorem q2075 : (Jvm.Cond.code ({ cls := "TableTowerModel", name := "isIn", desc := "(JJJ)Z" } : Jvm.MethodName) prog_20_method_5_code (6 : Nat) (Option.some Jvm.ClassFile.FieldType.boolean)) ∈ lw_all := lw_g (lw_at lw_m9 49 rfl) rfl
theorem q2076 : (Jvm.Cond.methodLink "TableTowerModel" (336 : Nat) ({ cls := "TableTowerModel", name := "levelOf", desc := "(I)I" } : Jvm.MethodName)) ∈ lw_all := lw_g (lw_at lw_m9 50 rfl) rfl
theorem q2077 : (Jvm.Cond.privateMethod ({ cls := "TableTowerModel", name := "levelOf", desc := "(I)I" } : Jvm.MethodName)) ∈ lw_tbl := lw_at lw_m9 51 rfl
theorem q2078 : (Jvm.Cond.instanceMethod ({ cls := "TableTowerModel", name := "levelOf", desc := "(I)I" } : Jvm.MethodName)) ∈ lw_all := lw_g (lw_at lw_m9 52 rfl) rfl
theorem q2079 : (Jvm.Cond.code ({ cls := "TableTowerModel", name := "levelOf", desc := "(I)I" } : Jvm.MethodName) prog_20_method_36_code (3 : Nat) (Option.some Jvm.ClassFile.FieldType.int)) ∈ lw_all := lw_g (lw_at lw_m9 53 rfl) rfl
theorem q2081 : (Jvm.Cond.instanceMethod ({ cls := "TableTowerModel", name := "by", desc := "()I" } : Jvm.MethodName)) ∈ lw_all := lw_g (lw_at lw_m9 55 rfl) rfl
theorem q2082 : (Jvm.Cond.selects "TableTowerModel" ({ cls := "TableTowerModel", name := "by", desc := "()I" } : Jvm.MethodName) ({ cls := "TableTowerModel", name := "by", desc := "()I" } : Jvm.MethodName)) ∈ lw_all := lw_g (lw_at lw_m9 56 rfl) rfl
theorem q2083 : (Jvm.Cond.code ({ cls := "TableTowerModel", name := "by", desc := "()I" } : Jvm.MethodName) prog_20_method_51_code (1 : Nat) (Option.some Jvm.ClassFile.FieldType.int)) ∈ lw_all := lw_g (lw_at lw_m9 57 rfl) rfl
theorem q2084 : (Jvm.Cond.methodLink "TableTowerModel" (339 : Nat) ({ cls := "TableTowerModel", name := "inTower", desc := "()I" } : Jvm.MethodName)) ∈ lw_all := lw_g (lw_at lw_m9 58 rfl) rfl
theorem q2085 : (Jvm.Cond.privateMethod ({ cls := "TableTowerModel", name := "inTower", desc := "()I" } : Jvm.MethodName)) ∈ lw_tbl := lw_at lw_m9 59 rfl
theorem q2086 : (Jvm.Cond.instanceMethod ({ cls := "TableTowerModel", name := "inTower", desc := "()I" } : Jvm.MethodName)) ∈ lw_all := lw_g (lw_at lw_m9 60 rfl) rfl
theorem q2087 : (Jvm.Cond.code ({ cls := "TableTowerModel", name := "inTower", desc := "()I" } : Jvm.MethodName) prog_20_method_48_code (3 : Nat) (Option.some Jvm.ClassFile.FieldType.int)) ∈ lw_all := lw_g (lw_at lw_m9 61 rfl) rfl
theorem q2089 : (Jvm.Cond.instanceMethod ({ cls := "TableTowerModel", name := "level", desc := "(II)I" } : Jvm.MethodName)) ∈ lw_all := lw_g (lw_at lw_m9 63 rfl) rfl
theorem q2090 : (Jvm.Cond.selects "TableTowerModel" ({ cls := "TableTowerModel", name := "level", desc := "(II)I" } : Jvm.MethodName) ({ cls := "TableTowerModel", name := "level", desc := "(II)I" } : Jvm.MethodName)) ∈ lw_all := lw_g (lw_at lw_m9 64 rfl) rfl
theorem q2091 : (Jvm.Cond.code ({ cls := "TableTowerModel", name := "level", desc := "(II)I" } : Jvm.MethodName) prog_20_method_52_code (3 : Nat) (Option.some Jvm.ClassFile.FieldType.int)) ∈ lw_all := lw_g (lw_at lw_m9 65 rfl) rfl
theorem q2092 : (Jvm.Cond.methodLink "TableTowerModel" (342 : Nat) ({ cls := "TableTowerModel", name := "isLevel", desc := "(I)Z" } : Jvm.MethodName)) ∈ lw_all := lw_g (lw_at lw_m9 66 rfl) rfl
theorem q2093 : (Jvm.Cond.privateMethod ({ cls := "TableTowerModel", name := "isLevel", desc := "(I)Z" } : Jvm.MethodName)) ∈ lw_tbl := lw_at lw_m9 67 rfl
theorem q2094 : (Jvm.Cond.instanceMethod ({ cls := "TableTowerModel", name := "isLevel", desc := "(I)Z" } : Jvm.MethodName)) ∈ lw_all := lw_g (lw_at lw_m9 68 rfl) rfl
theorem q2095 : (Jvm.Cond.code ({ cls := "TableTowerModel", name := "isLevel", desc := "(I)Z" } : Jvm.MethodName) prog_20_method_8_code (2 : Nat) (Option.some Jvm.ClassFile.FieldType.boolean)) ∈ lw_all := lw_g (lw_at lw_m9 69 rfl) rfl
theorem q2096 : (Jvm.Cond.constantLong "TableTowerModel" (345 : Nat) (4 : Int64)) ∈ lw_all := lw_g (lw_at lw_m9 70 rfl) rfl
theorem q2098 : (Jvm.Cond.instanceMethod ({ cls := "TableTowerModel", name := "put", desc := "(II)I" } : Jvm.MethodName)) ∈ lw_all := lw_g (lw_at lw_m9 72 rfl) rfl
theorem q2099 : (Jvm.Cond.selects "TableTowerModel" ({ cls := "TableTowerModel", name := "put", desc := "(II)I" } : Jvm.MethodName) ({ cls := "TableTowerModel", name := "put", desc := "(II)I" } : Jvm.MethodName)) ∈ lw_all := lw_g (lw_at lw_m9 73 rfl) rfl
theorem q2100 : (Jvm.Cond.code ({ cls := "TableTowerModel", name := "put", desc := "(II)I" } : Jvm.MethodName) prog_20_method_56_code (4 : Nat) (Option.some Jvm.ClassFile.FieldType.int)) ∈ lw_all := lw_g (lw_at lw_m9 74 rfl) rfl
theorem q2101 : (Jvm.Cond.methodLink "TableTowerModel" (351 : Nat) ({ cls := "TableTowerModel", name := "refuse", desc := "(I)I" } : Jvm.MethodName)) ∈ lw_all := lw_g (lw_at lw_m9 75 rfl) rfl
theorem q2102 : (Jvm.Cond.privateMethod ({ cls := "TableTowerModel", name := "refuse", desc := "(I)I" } : Jvm.MethodName)) ∈ lw_tbl := lw_at lw_m9 76 rfl
theorem q2103 : (Jvm.Cond.instanceMethod ({ cls := "TableTowerModel", name := "refuse", desc := "(I)I" } : Jvm.MethodName)) ∈ lw_all := lw_g (lw_at lw_m9 77 rfl) rfl
theorem q2104 : (Jvm.Cond.code ({ cls := "TableTowerModel", name := "refuse", desc := "(I)I" } : Jvm.MethodName) prog_20_method_53_code (2 : Nat) (Option.some Jvm.ClassFile.FieldType.int)) ∈ lw_all := lw_g (lw_at lw_m9 78 rfl) rfl
theorem q2105 : (Jvm.Cond.methodLink "TableTowerModel" (354 : Nat) ({ cls := "TableTowerModel", name := "keep", desc := "()V" } : Jvm.MethodName)) ∈ lw_all := lw_g (lw_at lw_m9 79 rfl) rfl
theorem q2106 : (Jvm.Cond.privateMethod ({ cls := "TableTowerModel", name := "keep", desc := "()V" } : Jvm.MethodName)) ∈ lw_tbl := lw_at lw_m9 80 rfl
theorem q2107 : (Jvm.Cond.instanceMethod ({ cls := "TableTowerModel", name := "keep", desc := "()V" } : Jvm.MethodName)) ∈ lw_all := lw_g (lw_at lw_m9 81 rfl) rfl
theorem q2108 : (Jvm.Cond.code ({ cls := "TableTowerModel", name := "keep", desc := "()V" } : Jvm.MethodName) prog_20_method_55_code (2 : Nat) (Option.none : Option Jvm.ClassFile.FieldType)) ∈ lw_all := lw_g (lw_at lw_m9 82 rfl) rfl
theorem q2109 : (Jvm.Cond.methodLink "TableTowerModel" (347 : Nat) ({ cls := "TableTowerModel", name := "pack", desc := "([II)V" } : Jvm.MethodName)) ∈ lw_all := lw_g (lw_at lw_m9 83 rfl) rfl
theorem q2110 : (Jvm.Cond.privateMethod ({ cls := "TableTowerModel", name := "pack", desc := "([II)V" } : Jvm.MethodName)) ∈ lw_tbl := lw_at lw_m9 84 rfl
theorem q2111 : (Jvm.Cond.instanceMethod ({ cls := "TableTowerModel", name := "pack", desc := "([II)V" } : Jvm.MethodName)) ∈ lw_all := lw_g (lw_at lw_m9 85 rfl) rfl
theorem q2112 : (Jvm.Cond.code ({ cls := "TableTowerModel", name := "pack", desc := "([II)V" } : Jvm.MethodName) prog_20_method_34_code (4 : Nat) (Option.none : Option Jvm.ClassFile.FieldType)) ∈ lw_all := lw_g (lw_at lw_m9 86 rfl) rfl
theorem q2114 : (Jvm.Cond.instanceMethod ({ cls := "TableTowerModel", name := "take", desc := "(I)I" } : Jvm.MethodName)) ∈ lw_all := lw_g (lw_at lw_m9 88 rfl) rfl
theorem q2115 : (Jvm.Cond.selects "TableTowerModel" ({ cls := "TableTowerModel", name := "take", desc := "(I)I" } : Jvm.MethodName) ({ cls := "TableTowerModel", name := "take", desc := "(I)I" } : Jvm.MethodName)) ∈ lw_all := lw_g (lw_at lw_m9 89 rfl) rfl
theorem q2116 : (Jvm.Cond.code ({ cls := "TableTowerModel", name := "take", desc := "(I)I" } : Jvm.MethodName) prog_20_method_58_code (3 : Nat) (Option.some Jvm.ClassFile.FieldType.int)) ∈ lw_all := lw_g (lw_at lw_m9 90 rfl) rfl
theorem q2117 : (Jvm.Cond.methodLink "TableTowerModel" (357 : Nat) ({ cls := "TableTowerModel", name := "takeOff", desc := "(I)V" } : Jvm.MethodName)) ∈ lw_all := lw_g (lw_at lw_m9 91 rfl) rfl
theorem q2118 : (Jvm.Cond.privateMethod ({ cls := "TableTowerModel", name := "takeOff", desc := "(I)V" } : Jvm.MethodName)) ∈ lw_tbl := lw_at lw_m9 92 rfl
theorem q2119 : (Jvm.Cond.instanceMethod ({ cls := "TableTowerModel", name := "takeOff", desc := "(I)V" } : Jvm.MethodName)) ∈ lw_all := lw_g (lw_at lw_m9 93 rfl) rfl
theorem q2120 : (Jvm.Cond.code ({ cls := "TableTowerModel", name := "takeOff", desc := "(I)V" } : Jvm.MethodName) prog_20_method_57_code (4 : Nat) (Option.none : Option Jvm.ClassFile.FieldType)) ∈ lw_all := lw_g (lw_at lw_m9 94 rfl) rfl
theorem q2122 : (Jvm.Cond.instanceMethod ({ cls := "TableTowerModel", name := "change", desc := "(II)Z" } : Jvm.MethodName)) ∈ lw_all := lw_g (lw_at lw_m9 96 rfl) rfl
theorem q2123 : (Jvm.Cond.selects "TableTowerModel" ({ cls := "TableTowerModel", name := "change", desc := "(II)Z" } : Jvm.MethodName) ({ cls := "TableTowerModel", name := "change", desc := "(II)Z" } : Jvm.MethodName)) ∈ lw_all := lw_g (lw_at lw_m9 97 rfl) rfl
theorem q2124 : (Jvm.Cond.code ({ cls := "TableTowerModel", name := "change", desc := "(II)Z" } : Jvm.MethodName) prog_20_method_60_code (3 : Nat) (Option.some Jvm.ClassFile.FieldType.boolean)) ∈ lw_all := lw_g (lw_at lw_m9 98 rfl) rfl
theorem q2125 : (Jvm.Cond.methodLink "TableTowerModel" (360 : Nat) ({ cls := "TableTowerModel", name := "failing", desc := "(I)Z" } : Jvm.MethodName)) ∈ lw_all := lw_g (lw_at lw_m9 99 rfl) rfl
theorem q2126 : (Jvm.Cond.privateMethod ({ cls := "TableTowerModel", name := "failing", desc := "(I)Z" } : Jvm.MethodName)) ∈ lw_tbl := lw_at lw_m9 100 rfl
theorem q2127 : (Jvm.Cond.instanceMethod ({ cls := "TableTowerModel", name := "failing", desc := "(I)Z" } : Jvm.MethodName)) ∈ lw_all := lw_g (lw_at lw_m9 101 rfl) rfl
theorem q2128 : (Jvm.Cond.code ({ cls := "TableTowerModel", name := "failing", desc := "(I)Z" } : Jvm.MethodName) prog_20_method_4_code (2 : Nat) (Option.some Jvm.ClassFile.FieldType.boolean)) ∈ lw_all := lw_g (lw_at lw_m9 102 rfl) rfl
theorem q2129 : (Jvm.Cond.methodLink "TableTowerModel" (363 : Nat) ({ cls := "TableTowerModel", name := "exchange", desc := "(II)V" } : Jvm.MethodName)) ∈ lw_all := lw_g (lw_at lw_m9 103 rfl) rfl
theorem q2130 : (Jvm.Cond.privateMethod ({ cls := "TableTowerModel", name := "exchange", desc := "(II)V" } : Jvm.MethodName)) ∈ lw_tbl := lw_at lw_m9 104 rfl
theorem q2131 : (Jvm.Cond.instanceMethod ({ cls := "TableTowerModel", name := "exchange", desc := "(II)V" } : Jvm.MethodName)) ∈ lw_all := lw_g (lw_at lw_m9 105 rfl) rfl
theorem q2132 : (Jvm.Cond.code ({ cls := "TableTowerModel", name := "exchange", desc := "(II)V" } : Jvm.MethodName) prog_20_method_59_code (4 : Nat) (Option.none : Option Jvm.ClassFile.FieldType)) ∈ lw_all := lw_g (lw_at lw_m9 106 rfl) rfl
theorem q2134 : (Jvm.Cond.instanceMethod ({ cls := "TableTowerModel", name := "wedge", desc := "(II)I" } : Jvm.MethodName)) ∈ lw_all := lw_g (lw_at lw_m9 108 rfl) rfl
theorem q2135 : (Jvm.Cond.selects "TableTowerModel" ({ cls := "TableTowerModel", name := "wedge", desc := "(II)I" } : Jvm.MethodName) ({ cls := "TableTowerModel", name := "wedge", desc := "(II)I" } : Jvm.MethodName)) ∈ lw_all := lw_g (lw_at lw_m9 109 rfl) rfl
theorem q2136 : (Jvm.Cond.code ({ cls := "TableTowerModel", name := "wedge", desc := "(II)I" } : Jvm.MethodName) prog_20_method_61_code (4 : Nat) (Option.some Jvm.ClassFile.FieldType.int)) ∈ lw_all := lw_g (lw_at lw_m9 110 rfl) rfl
theorem q2137 : (Jvm.Cond.constantLong "TableTowerModel" (367 : Nat) (-9 : Int64)) ∈ lw_all := lw_g (lw_at lw_m9 111 rfl) rfl
theorem q2138 : (Jvm.Cond.constantLong "TableTowerModel" (369 : Nat) (9 : Int64)) ∈ lw_all := lw_g (lw_at lw_m9 112 rfl) rfl
theorem q2139 : (Jvm.Cond.methodLink "TableTowerModel" (371 : Nat) ({ cls := "TableTowerModel", name := "refuseFar", desc := "()I" } : Jvm.MethodName)) ∈ lw_all := lw_g (lw_at lw_m9 113 rfl) rfl
theorem q2140 : (Jvm.Cond.privateMethod ({ cls := "TableTowerModel", name := "refuseFar", desc := "()I" } : Jvm.MethodName)) ∈ lw_tbl := lw_at lw_m9 114 rfl
theorem q2141 : (Jvm.Cond.instanceMethod ({ cls := "TableTowerModel", name := "refuseFar", desc := "()I" } : Jvm.MethodName)) ∈ lw_all := lw_g (lw_at lw_m9 115 rfl) rfl
theorem q2142 : (Jvm.Cond.code ({ cls := "TableTowerModel", name := "refuseFar", desc := "()I" } : Jvm.MethodName) prog_20_method_54_code (1 : Nat) (Option.some Jvm.ClassFile.FieldType.int)) ∈ lw_all := lw_g (lw_at lw_m9 116 rfl) rfl
theorem q2144 : (Jvm.Cond.instanceMethod ({ cls := "TableTowerModel", name := "saw", desc := "(II)I" } : Jvm.MethodName)) ∈ lw_all := lw_g (lw_at lw_m9 118 rfl) rfl
theorem q2145 : (Jvm.Cond.selects "TableTowerModel" ({ cls := "TableTowerModel", name := "saw", desc := "(II)I" } : Jvm.MethodName) ({ cls := "TableTowerModel", name := "saw", desc := "(II)I" } : Jvm.MethodName)) ∈ lw_all := lw_g (lw_at lw_m9 119 rfl) rfl
theorem q2146 : (Jvm.Cond.code ({ cls := "TableTowerModel", name := "saw", desc := "(II)I" } : Jvm.MethodName) prog_20_method_62_code (4 : Nat) (Option.some Jvm.ClassFile.FieldType.int)) ∈ lw_all := lw_g (lw_at lw_m9 120 rfl) rfl
theorem q2148 : (Jvm.Cond.instanceMethod ({ cls := "TableTowerModel", name := "supper", desc := "()I" } : Jvm.MethodName)) ∈ lw_all := lw_g (lw_at lw_m9 122 rfl) rfl
theorem q2149 : (Jvm.Cond.selects "TableTowerModel" ({ cls := "TableTowerModel", name := "supper", desc := "()I" } : Jvm.MethodName) ({ cls := "TableTowerModel", name := "supper", desc := "()I" } : Jvm.MethodName)) ∈ lw_all := lw_g (lw_at lw_m9 123 rfl) rfl
theorem q2150 : (Jvm.Cond.code ({ cls := "TableTowerModel", name := "supper", desc := "()I" } : Jvm.MethodName) prog_20_method_66_code (1 : Nat) (Option.some Jvm.ClassFile.FieldType.int)) ∈ lw_all := lw_g (lw_at lw_m9 124 rfl) rfl
theorem q2151 : (Jvm.Cond.methodLink "TableTowerModel" (381 : Nat) ({ cls := "TableTowerModel", name := "eat", desc := "(I)I" } : Jvm.MethodName)) ∈ lw_all := lw_g (lw_at lw_m9 125 rfl) rfl
theorem q2152 : (Jvm.Cond.privateMethod ({ cls := "TableTowerModel", name := "eat", desc := "(I)I" } : Jvm.MethodName)) ∈ lw_tbl := lw_at lw_m9 126 rfl
theorem q2153 : (Jvm.Cond.instanceMethod ({ cls := "TableTowerModel", name := "eat", desc := "(I)I" } : Jvm.MethodName)) ∈ lw_all := lw_g (lw_at lw_m9 127 rfl) rfl
theorem q2154 : (Jvm.Cond.code ({ cls := "TableTowerModel", name := "eat", desc := "(I)I" } : Jvm.MethodName) prog_20_method_65_code (6 : Nat) (Option.some Jvm.ClassFile.FieldType.int)) ∈ lw_all := lw_g (lw_at lw_m9 128 rfl) rfl
theorem q2155 : (Jvm.Cond.methodLink "TableTowerModel" (378 : Nat) ({ cls := "TableTowerModel", name := "valueNow", desc := "()I" } : Jvm.MethodName)) ∈ lw_all := lw_g (lw_at lw_m9 129 rfl) rfl
theorem q2156 : (Jvm.Cond.privateMethod ({ cls := "TableTowerModel", name := "valueNow", desc := "()I" } : Jvm.MethodName)) ∈ lw_tbl := lw_at lw_m9 130 rfl
theorem q2157 : (Jvm.Cond.instanceMethod ({ cls := "TableTowerModel", name := "valueNow", desc := "()I" } : Jvm.MethodName)) ∈ lw_all := lw_g (lw_at lw_m9 131 rfl) rfl
theorem q2158 : (Jvm.Cond.code ({ cls := "TableTowerModel", name := "valueNow", desc := "()I" } : Jvm.MethodName) prog_20_method_64_code (4 : Nat) (Option.some Jvm.ClassFile.FieldType.int)) ∈ lw_all := lw_g (lw_at lw_m9 132 rfl) rfl
theorem q2159 : (Jvm.Cond.methodLink "TableTowerModel" (374 : Nat) ({ cls := "TableTowerModel", name := "reckon", desc := "(III)I" } : Jvm.MethodName)) ∈ lw_all := lw_g (lw_at lw_m9 133 rfl) rfl
theorem q2160 : (Jvm.Cond.static ({ cls := "TableTowerModel", name := "reckon", desc := "(III)I" } : Jvm.MethodName)) ∈ lw_all := lw_g (lw_at lw_m9 134 rfl) rfl
theorem q2161 : (Jvm.Cond.code ({ cls := "TableTowerModel", name := "reckon", desc := "(III)I" } : Jvm.MethodName) prog_20_method_63_code (3 : Nat) (Option.some Jvm.ClassFile.FieldType.int)) ∈ lw_all := lw_g (lw_at lw_m9 135 rfl) rfl
theorem q2163 : (Jvm.Cond.instanceMethod ({ cls := "TableTowerModel", name := "years", desc := "(I)I" } : Jvm.MethodName)) ∈ lw_all := lw_g (lw_at lw_m9 137 rfl) rfl
theorem q2164 : (Jvm.Cond.selects "TableTowerModel" ({ cls := "TableTowerModel", name := "years", desc := "(I)I" } : Jvm.MethodName) ({ cls := "TableTowerModel", name := "years", desc := "(I)I" } : Jvm.MethodName)) ∈ lw_all := lw_g (lw_at lw_m9 138 rfl) rfl
theorem q2165 : (Jvm.Cond.code ({ cls := "TableTowerModel", name := "years", desc := "(I)I" } : Jvm.MethodName) prog_20_method_67_code (2 : Nat) (Option.some Jvm.ClassFile.FieldType.int)) ∈ lw_all := lw_g (lw_at lw_m9 139 rfl) rfl
theorem q2166 : (Jvm.Cond.constantLong "TableTowerModel" (384 : Nat) (30 : Int64)) ∈ lw_all := lw_g (lw_at lw_m9 140 rfl) rfl
theorem q2168 : (Jvm.Cond.instanceMethod ({ cls := "TableTowerModel", name := "undo", desc := "()I" } : Jvm.MethodName)) ∈ lw_all := lw_g (lw_at lw_m9 142 rfl) rfl
theorem q2169 : (Jvm.Cond.selects "TableTowerModel" ({ cls := "TableTowerModel", name := "undo", desc := "()I" } : Jvm.MethodName) ({ cls := "TableTowerModel", name := "undo", desc := "()I" } : Jvm.MethodName)) ∈ lw_all := lw_g (lw_at lw_m9 143 rfl) rfl
theorem q2170 : (Jvm.Cond.code ({ cls := "TableTowerModel", name := "undo", desc := "()I" } : Jvm.MethodName) prog_20_method_68_code (1 : Nat) (Option.some Jvm.ClassFile.FieldType.int)) ∈ lw_all := lw_g (lw_at lw_m9 144 rfl) rfl
theorem q2171 : (Jvm.Cond.methodLink "TableTowerModel" (386 : Nat) ({ cls := "TableTowerModel", name := "unpack", desc := "([II)V" } : Jvm.MethodName)) ∈ lw_all := lw_g (lw_at lw_m9 145 rfl) rfl
theorem q2172 : (Jvm.Cond.privateMethod ({ cls := "TableTowerModel", name := "unpack", desc := "([II)V" } : Jvm.MethodName)) ∈ lw_tbl := lw_at lw_m9 146 rfl
theorem q2173 : (Jvm.Cond.instanceMethod ({ cls := "TableTowerModel", name := "unpack", desc := "([II)V" } : Jvm.MethodName)) ∈ lw_all := lw_g (lw_at lw_m9 147 rfl) rfl
theorem q2174 : (Jvm.Cond.code ({ cls := "TableTowerModel", name := "unpack", desc := "([II)V" } : Jvm.MethodName) prog_20_method_35_code (4 : Nat) (Option.none : Option Jvm.ClassFile.FieldType)) ∈ lw_all := lw_g (lw_at lw_m9 148 rfl) rfl
theorem q2176 : (Jvm.Cond.instanceMethod ({ cls := "TableTowerModel", name := "more", desc := "()I" } : Jvm.MethodName)) ∈ lw_all := lw_g (lw_at lw_m9 150 rfl) rfl
theorem q2177 : (Jvm.Cond.selects "TableTowerModel" ({ cls := "TableTowerModel", name := "more", desc := "()I" } : Jvm.MethodName) ({ cls := "TableTowerModel", name := "more", desc := "()I" } : Jvm.MethodName)) ∈ lw_all := lw_g (lw_at lw_m9 151 rfl) rfl
theorem q2178 : (Jvm.Cond.code ({ cls := "TableTowerModel", name := "more", desc := "()I" } : Jvm.MethodName) prog_20_method_69_code (1 : Nat) (Option.some Jvm.ClassFile.FieldType.int)) ∈ lw_all := lw_g (lw_at lw_m9 152 rfl) rfl
theorem q2179 : (Jvm.Cond.methodLink "TableTowerModel" (389 : Nat) ({ cls := "TableTowerModel", name := "moreNow", desc := "()I" } : Jvm.MethodName)) ∈ lw_all := lw_g (lw_at lw_m9 153 rfl) rfl
theorem q2180 : (Jvm.Cond.privateMethod ({ cls := "TableTowerModel", name := "moreNow", desc := "()I" } : Jvm.MethodName)) ∈ lw_tbl := lw_at lw_m9 154 rfl
theorem q2181 : (Jvm.Cond.instanceMethod ({ cls := "TableTowerModel", name := "moreNow", desc := "()I" } : Jvm.MethodName)) ∈ lw_all := lw_g (lw_at lw_m9 155 rfl) rfl
theorem q2182 : (Jvm.Cond.code ({ cls := "TableTowerModel", name := "moreNow", desc := "()I" } : Jvm.MethodName) prog_20_method_46_code (3 : Nat) (Option.some Jvm.ClassFile.FieldType.int)) ∈ lw_all := lw_g (lw_at lw_m9 156 rfl) rfl
theorem q2184 : (Jvm.Cond.instanceMethod ({ cls := "TableTowerModel", name := "without", desc := "(I)Z" } : Jvm.MethodName)) ∈ lw_all := lw_g (lw_at lw_m9 158 rfl) rfl
theorem q2185 : (Jvm.Cond.selects "TableTowerModel" ({ cls := "TableTowerModel", name := "without", desc := "(I)Z" } : Jvm.MethodName) ({ cls := "TableTowerModel", name := "without", desc := "(I)Z" } : Jvm.MethodName)) ∈ lw_all := lw_g (lw_at lw_m9 159 rfl) rfl
theorem q2186 : (Jvm.Cond.code ({ cls := "TableTowerModel", name := "without", desc := "(I)Z" } : Jvm.MethodName) prog_20_method_70_code (3 : Nat) (Option.some Jvm.ClassFile.FieldType.boolean)) ∈ lw_all := lw_g (lw_at lw_m9 160 rfl) rfl
theorem q2188 : (Jvm.Cond.instanceMethod ({ cls := "TableTowerModel", name := "most", desc := "(I)I" } : Jvm.MethodName)) ∈ lw_all := lw_g (lw_at lw_m9 162 rfl) rfl
theorem q2189 : (Jvm.Cond.selects "TableTowerModel" ({ cls := "TableTowerModel", name := "most", desc := "(I)I" } : Jvm.MethodName) ({ cls := "TableTowerModel", name := "most", desc := "(I)I" } : Jvm.MethodName)) ∈ lw_all := lw_g (lw_at lw_m9 163 rfl) rfl
theorem q2190 : (Jvm.Cond.code ({ cls := "TableTowerModel", name := "most", desc := "(I)I" } : Jvm.MethodName) prog_20_method_76_code (3 : Nat) (Option.some Jvm.ClassFile.FieldType.int)) ∈ lw_all := lw_g (lw_at lw_m9 164 rfl) rfl
theorem q2191 : (Jvm.Cond.methodLink "TableTowerModel" (415 : Nat) ({ cls := "TableTowerModel", name := "mostSet", desc := "()I" } : Jvm.MethodName)) ∈ lw_all := lw_g (lw_at lw_m9 165 rfl) rfl
theorem q2192 : (Jvm.Cond.privateMethod ({ cls := "TableTowerModel", name := "mostSet", desc := "()I" } : Jvm.MethodName)) ∈ lw_tbl := lw_at lw_m9 166 rfl
theorem q2193 : (Jvm.Cond.instanceMethod ({ cls := "TableTowerModel", name := "mostSet", desc := "()I" } : Jvm.MethodName)) ∈ lw_all := lw_g (lw_at lw_m9 167 rfl) rfl
theorem q2194 : (Jvm.Cond.code ({ cls := "TableTowerModel", name := "mostSet", desc := "()I" } : Jvm.MethodName) prog_20_method_75_code (3 : Nat) (Option.some Jvm.ClassFile.FieldType.int)) ∈ lw_all := lw_g (lw_at lw_m9 168 rfl) rfl
theorem q2195 : (Jvm.Cond.methodLink "TableTowerModel" (409 : Nat) ({ cls := "TableTowerModel", name := "tellSums", desc := "()V" } : Jvm.MethodName)) ∈ lw_all := lw_g (lw_at lw_m9 169 rfl) rfl
theorem q2196 : (Jvm.Cond.privateMethod ({ cls := "TableTowerModel", name := "tellSums", desc := "()V" } : Jvm.MethodName)) ∈ lw_tbl := lw_at lw_m9 170 rfl
theorem q2197 : (Jvm.Cond.instanceMethod ({ cls := "TableTowerModel", name := "tellSums", desc := "()V" } : Jvm.MethodName)) ∈ lw_all := lw_g (lw_at lw_m9 171 rfl) rfl
theorem q2198 : (Jvm.Cond.code ({ cls := "TableTowerModel", name := "tellSums", desc := "()V" } : Jvm.MethodName) prog_20_method_71_code (3 : Nat) (Option.none : Option Jvm.ClassFile.FieldType)) ∈ lw_all := lw_g (lw_at lw_m9 172 rfl) rfl
theorem q2199 : (Jvm.Cond.methodLink "TableTowerModel" (399 : Nat) ({ cls := "TableTowerModel", name := "bitsOf", desc := "(I)I" } : Jvm.MethodName)) ∈ lw_all := lw_g (lw_at lw_m9 173 rfl) rfl
theorem q2200 : (Jvm.Cond.static ({ cls := "TableTowerModel", name := "bitsOf", desc := "(I)I" } : Jvm.MethodName)) ∈ lw_all := lw_g (lw_at lw_m9 174 rfl) rfl
theorem q2201 : (Jvm.Cond.code ({ cls := "TableTowerModel", name := "bitsOf", desc := "(I)I" } : Jvm.MethodName) prog_20_method_72_code (3 : Nat) (Option.some Jvm.ClassFile.FieldType.int)) ∈ lw_all := lw_g (lw_at lw_m9 175 rfl) rfl
theorem q2202 : (Jvm.Cond.methodLink "TableTowerModel" (412 : Nat) ({ cls := "TableTowerModel", name := "tellWays", desc := "(I)V" } : Jvm.MethodName)) ∈ lw_all := lw_g (lw_at lw_m9 176 rfl) rfl
theorem q2203 : (Jvm.Cond.privateMethod ({ cls := "TableTowerModel", name := "tellWays", desc := "(I)V" } : Jvm.MethodName)) ∈ lw_tbl := lw_at lw_m9 177 rfl
theorem q2204 : (Jvm.Cond.instanceMethod ({ cls := "TableTowerModel", name := "tellWays", desc := "(I)V" } : Jvm.MethodName)) ∈ lw_all := lw_g (lw_at lw_m9 178 rfl) rfl
theorem q2205 : (Jvm.Cond.code ({ cls := "TableTowerModel", name := "tellWays", desc := "(I)V" } : Jvm.MethodName) prog_20_method_74_code (4 : Nat) (Option.none : Option Jvm.ClassFile.FieldType)) ∈ lw_all := lw_g (lw_at lw_m9 179 rfl) rfl
theorem q2206 : (Jvm.Cond.methodLink "TableTowerModel" (395 : Nat) ({ cls := "TableTowerModel", name := "isOf", desc := "(II)Z" } : Jvm.MethodName)) ∈ lw_all := lw_g (lw_at lw_m9 180 rfl) rfl
theorem q2207 : (Jvm.Cond.static ({ cls := "TableTowerModel", name := "isOf", desc := "(II)Z" } : Jvm.MethodName)) ∈ lw_all := lw_g (lw_at lw_m9 181 rfl) rfl
theorem q2208 : (Jvm.Cond.code ({ cls := "TableTowerModel", name := "isOf", desc := "(II)Z" } : Jvm.MethodName) prog_20_method_6_code (2 : Nat) (Option.some Jvm.ClassFile.FieldType.boolean)) ∈ lw_all := lw_g (lw_at lw_m9 182 rfl) rfl
theorem q2209 : (Jvm.Cond.methodLink "TableTowerModel" (405 : Nat) ({ cls := "TableTowerModel", name := "fits", desc := "(III)Z" } : Jvm.MethodName)) ∈ lw_all := lw_g (lw_at lw_m9 183 rfl) rfl
theorem q2210 : (Jvm.Cond.privateMethod ({ cls := "TableTowerModel", name := "fits", desc := "(III)Z" } : Jvm.MethodName)) ∈ lw_tbl := lw_at lw_m9 184 rfl
theorem q2211 : (Jvm.Cond.instanceMethod ({ cls := "TableTowerModel", name := "fits", desc := "(III)Z" } : Jvm.MethodName)) ∈ lw_all := lw_g (lw_at lw_m9 185 rfl) rfl
theorem q2212 : (Jvm.Cond.code ({ cls := "TableTowerModel", name := "fits", desc := "(III)Z" } : Jvm.MethodName) prog_20_method_73_code (5 : Nat) (Option.some Jvm.ClassFile.FieldType.boolean)) ∈ lw_all := lw_g (lw_at lw_m9 186 rfl) rfl
theorem q2214 : (Jvm.Cond.instanceMethod ({ cls := "TableTowerModel", name := "row", desc := "(I)I" } : Jvm.MethodName)) ∈ lw_all := lw_g (lw_at lw_m9 188 rfl) rfl
theorem q2215 : (Jvm.Cond.selects "TableTowerModel" ({ cls := "TableTowerModel", name := "row", desc := "(I)I" } : Jvm.MethodName) ({ cls := "TableTowerModel", name := "row", desc := "(I)I" } : Jvm.MethodName)) ∈ lw_all := lw_g (lw_at lw_m9 189 rfl) rfl
theorem q2216 : (Jvm.Cond.code ({ cls := "TableTowerModel", name := "row", desc := "(I)I" } : Jvm.MethodName) prog_20_method_77_code (7 : Nat) (Option.some Jvm.ClassFile.FieldType.int)) ∈ lw_all := lw_g (lw_at lw_m9 190 rfl) rfl
theorem q2218 : (Jvm.Cond.instanceMethod ({ cls := "TableTowerModel", name := "orders", desc := "()J" } : Jvm.MethodName)) ∈ lw_all := lw_g (lw_at lw_m9 192 rfl) rfl
theorem q2219 : (Jvm.Cond.selects "TableTowerModel" ({ cls := "TableTowerModel", name := "orders", desc := "()J" } : Jvm.MethodName) ({ cls := "TableTowerModel", name := "orders", desc := "()J" } : Jvm.MethodName)) ∈ lw_all := lw_g (lw_at lw_m9 193 rfl) rfl
theorem q2220 : (Jvm.Cond.code ({ cls := "TableTowerModel", name := "orders", desc := "()J" } : Jvm.MethodName) prog_20_method_79_code (1 : Nat) (Option.some Jvm.ClassFile.FieldType.long)) ∈ lw_all := lw_g (lw_at lw_m9 194 rfl) rfl
theorem q2221 : (Jvm.Cond.methodLink "TableTowerModel" (418 : Nat) ({ cls := "TableTowerModel", name := "ordersOf", desc := "(I)J" } : Jvm.MethodName)) ∈ lw_all := lw_g (lw_at lw_m9 195 rfl) rfl
theorem q2222 : (Jvm.Cond.privateMethod ({ cls := "TableTowerModel", name := "ordersOf", desc := "(I)J" } : Jvm.MethodName)) ∈ lw_tbl := lw_at lw_m9 196 rfl
theorem q2223 : (Jvm.Cond.instanceMethod ({ cls := "TableTowerModel", name := "ordersOf", desc := "(I)J" } : Jvm.MethodName)) ∈ lw_all := lw_g (lw_at lw_m9 197 rfl) rfl
theorem q2224 : (Jvm.Cond.code ({ cls := "TableTowerModel", name := "ordersOf", desc := "(I)J" } : Jvm.MethodName) prog_20_method_78_code (2 : Nat) (Option.some Jvm.ClassFile.FieldType.long)) ∈ lw_all := lw_g (lw_at lw_m9 198 rfl) rfl
theorem q2226 : (Jvm.Cond.instanceMethod ({ cls := "TableTowerModel", name := "lifted", desc := "(II)J" } : Jvm.MethodName)) ∈ lw_all := lw_g (lw_at lw_m9 200 rfl) rfl
theorem q2227 : (Jvm.Cond.selects "TableTowerModel" ({ cls := "TableTowerModel", name := "lifted", desc := "(II)J" } : Jvm.MethodName) ({ cls := "TableTowerModel", name := "lifted", desc := "(II)J" } : Jvm.MethodName)) ∈ lw_all := lw_g (lw_at lw_m9 201 rfl) rfl
theorem q2228 : (Jvm.Cond.code ({ cls := "TableTowerModel", name := "lifted", desc := "(II)J" } : Jvm.MethodName) prog_20_method_80_code (5 : Nat) (Option.some Jvm.ClassFile.FieldType.long)) ∈ lw_all := lw_g (lw_at lw_m9 202 rfl) rfl
theorem q2229 : (Jvm.Cond.constantLong "TableTowerModel" (422 : Nat) (10 : Int64)) ∈ lw_all := lw_g (lw_at lw_m9 203 rfl) rfl
theorem q2231 : (Jvm.Cond.instanceMethod ({ cls := "TableTowerModel", name := "wedges", desc := "()I" } : Jvm.MethodName)) ∈ lw_all := lw_g (lw_at lw_m9 205 rfl) rfl
theorem q2232 : (Jvm.Cond.selects "TableTowerModel" ({ cls := "TableTowerModel", name := "wedges", desc := "()I" } : Jvm.MethodName) ({ cls := "TableTowerModel", name := "wedges", desc := "()I" } : Jvm.MethodName)) ∈ lw_all := lw_g (lw_at lw_m9 206 rfl) rfl
theorem q2233 : (Jvm.Cond.code ({ cls := "TableTowerModel", name := "wedges", desc := "()I" } : Jvm.MethodName) prog_20_method_82_code (3 : Nat) (Option.some Jvm.ClassFile.FieldType.int)) ∈ lw_all := lw_g (lw_at lw_m9 207 rfl) rfl
theorem q2234 : (Jvm.Cond.methodLink "TableTowerModel" (424 : Nat) ({ cls := "TableTowerModel", name := "wedgeLevel", desc := "(I)V" } : Jvm.MethodName)) ∈ lw_all := lw_g (lw_at lw_m9 208 rfl) rfl
theorem q2235 : (Jvm.Cond.privateMethod ({ cls := "TableTowerModel", name := "wedgeLevel", desc := "(I)V" } : Jvm.MethodName)) ∈ lw_tbl := lw_at lw_m9 209 rfl
theorem q2236 : (Jvm.Cond.instanceMethod ({ cls := "TableTowerModel", name := "wedgeLevel", desc := "(I)V" } : Jvm.MethodName)) ∈ lw_all := lw_g (lw_at lw_m9 210 rfl) rfl
theorem q2237 : (Jvm.Cond.code ({ cls := "TableTowerModel", name := "wedgeLevel", desc := "(I)V" } : Jvm.MethodName) prog_20_method_81_code (6 : Nat) (Option.none : Option Jvm.ClassFile.FieldType)) ∈ lw_all := lw_g (lw_at lw_m9 211 rfl) rfl
theorem q2239 : (Jvm.Cond.instanceMethod ({ cls := "TableTowerModel", name := "when", desc := "()I" } : Jvm.MethodName)) ∈ lw_all := lw_g (lw_at lw_m9 213 rfl) rfl
theorem q2240 : (Jvm.Cond.selects "TableTowerModel" ({ cls := "TableTowerModel", name := "when", desc := "()I" } : Jvm.MethodName) ({ cls := "TableTowerModel", name := "when", desc := "()I" } : Jvm.MethodName)) ∈ lw_all := lw_g (lw_at lw_m9 214 rfl) rfl
theorem q2241 : (Jvm.Cond.code ({ cls := "TableTowerModel", name := "when", desc := "()I" } : Jvm.MethodName) prog_20_method_83_code (4 : Nat) (Option.some Jvm.ClassFile.FieldType.int)) ∈ lw_all := lw_g (lw_at lw_m9 215 rfl) rfl
theorem q2243 : (Jvm.Cond.instanceMethod ({ cls := "TableTowerModel", name := "broken", desc := "(I)I" } : Jvm.MethodName)) ∈ lw_all := lw_g (lw_at lw_m9 217 rfl) rfl
theorem q2244 : (Jvm.Cond.selects "TableTowerModel" ({ cls := "TableTowerModel", name := "broken", desc := "(I)I" } : Jvm.MethodName) ({ cls := "TableTowerModel", name := "broken", desc := "(I)I" } : Jvm.MethodName)) ∈ lw_all := lw_g (lw_at lw_m9 218 rfl) rfl
theorem q2245 : (Jvm.Cond.code ({ cls := "TableTowerModel", name := "broken", desc := "(I)I" } : Jvm.MethodName) prog_20_method_84_code (3 : Nat) (Option.some Jvm.ClassFile.FieldType.int)) ∈ lw_all := lw_g (lw_at lw_m9 219 rfl) rfl
theorem q2246 : (Jvm.Cond.constantLong "TableTowerModel" (427 : Nat) (99 : Int64)) ∈ lw_all := lw_g (lw_at lw_m9 220 rfl) rfl
theorem q2248 : (Jvm.Cond.instanceMethod ({ cls := "TableTowerModel", name := "marry", desc := "(II)Z" } : Jvm.MethodName)) ∈ lw_all := lw_g (lw_at lw_m9 222 rfl) rfl
theorem q2249 : (Jvm.Cond.selects "TableTowerModel" ({ cls := "TableTowerModel", name := "marry", desc := "(II)Z" } : Jvm.MethodName) ({ cls := "TableTowerModel", name := "marry", desc := "(II)Z" } : Jvm.MethodName)) ∈ lw_all := lw_g (lw_at lw_m9 223 rfl) rfl
theorem q2250 : (Jvm.Cond.code ({ cls := "TableTowerModel", name := "marry", desc := "(II)Z" } : Jvm.MethodName) prog_20_method_86_code (3 : Nat) (Option.some Jvm.ClassFile.FieldType.boolean)) ∈ lw_all := lw_g (lw_at lw_m9 224 rfl) rfl
theorem q2251 : (Jvm.Cond.methodLink "TableTowerModel" (429 : Nat) ({ cls := "TableTowerModel", name := "canMarry", desc := "(II)Z" } : Jvm.MethodName)) ∈ lw_all := lw_g (lw_at lw_m9 225 rfl) rfl
theorem q2252 : (Jvm.Cond.privateMethod ({ cls := "TableTowerModel", name := "canMarry", desc := "(II)Z" } : Jvm.MethodName)) ∈ lw_tbl := lw_at lw_m9 226 rfl
theorem q2253 : (Jvm.Cond.instanceMethod ({ cls := "TableTowerModel", name := "canMarry", desc := "(II)Z" } : Jvm.MethodName)) ∈ lw_all := lw_g (lw_at lw_m9 227 rfl) rfl
theorem q2254 : (Jvm.Cond.code ({ cls := "TableTowerModel", name := "canMarry", desc := "(II)Z" } : Jvm.MethodName) prog_20_method_85_code (3 : Nat) (Option.some Jvm.ClassFile.FieldType.boolean)) ∈ lw_all := lw_g (lw_at lw_m9 228 rfl) rfl
theorem q2256 : (Jvm.Cond.instanceMethod ({ cls := "TableTowerModel", name := "marriages", desc := "()I" } : Jvm.MethodName)) ∈ lw_all := lw_g (lw_at lw_m9 230 rfl) rfl
theorem q2257 : (Jvm.Cond.selects "TableTowerModel" ({ cls := "TableTowerModel", name := "marriages", desc := "()I" } : Jvm.MethodName) ({ cls := "TableTowerModel", name := "marriages", desc := "()I" } : Jvm.MethodName)) ∈ lw_all := lw_g (lw_at lw_m9 231 rfl) rfl
theorem q2258 : (Jvm.Cond.code ({ cls := "TableTowerModel", name := "marriages", desc := "()I" } : Jvm.MethodName) prog_20_method_88_code (1 : Nat) (Option.some Jvm.ClassFile.FieldType.int)) ∈ lw_all := lw_g (lw_at lw_m9 232 rfl) rfl
theorem q2259 : (Jvm.Cond.methodLink "TableTowerModel" (432 : Nat) ({ cls := "TableTowerModel", name := "couplesOf", desc := "(I)I" } : Jvm.MethodName)) ∈ lw_all := lw_g (lw_at lw_m9 233 rfl) rfl
theorem q2260 : (Jvm.Cond.privateMethod ({ cls := "TableTowerModel", name := "couplesOf", desc := "(I)I" } : Jvm.MethodName)) ∈ lw_tbl := lw_at lw_m9 234 rfl
theorem q2261 : (Jvm.Cond.instanceMethod ({ cls := "TableTowerModel", name := "couplesOf", desc := "(I)I" } : Jvm.MethodName)) ∈ lw_all := lw_g (lw_at lw_m9 235 rfl) rfl
theorem q2262 : (Jvm.Cond.code ({ cls := "TableTowerModel", name := "couplesOf", desc := "(I)I" } : Jvm.MethodName) prog_20_method_87_code (6 : Nat) (Option.some Jvm.ClassFile.FieldType.int)) ∈ lw_all := lw_g (lw_at lw_m9 236 rfl) rfl
theorem q2264 : (Jvm.Cond.instanceMethod ({ cls := "TableTowerModel", name := "nod", desc := "(II)I" } : Jvm.MethodName)) ∈ lw_all := lw_g (lw_at lw_m9 238 rfl) rfl
theorem q2265 : (Jvm.Cond.selects "TableTowerModel" ({ cls := "TableTowerModel", name := "nod", desc := "(II)I" } : Jvm.MethodName) ({ cls := "TableTowerModel", name := "nod", desc := "(II)I" } : Jvm.MethodName)) ∈ lw_all := lw_g (lw_at lw_m9 239 rfl) rfl
theorem q2266 : (Jvm.Cond.code ({ cls := "TableTowerModel", name := "nod", desc := "(II)I" } : Jvm.MethodName) prog_20_method_89_code (4 : Nat) (Option.some Jvm.ClassFile.FieldType.int)) ∈ lw_all := lw_g (lw_at lw_m10 0 rfl) rfl
theorem q2268 : (Jvm.Cond.instanceMethod ({ cls := "TableTowerModel", name := "fair", desc := "()I" } : Jvm.MethodName)) ∈ lw_all := lw_g (lw_at lw_m10 2 rfl) rfl
theorem q2269 : (Jvm.Cond.selects "TableTowerModel" ({ cls := "TableTowerModel", name := "fair", desc := "()I" } : Jvm.MethodName) ({ cls := "TableTowerModel", name := "fair", desc := "()I" } : Jvm.MethodName)) ∈ lw_all := lw_g (lw_at lw_m10 3 rfl) rfl
theorem q2270 : (Jvm.Cond.code ({ cls := "TableTowerModel", name := "fair", desc := "()I" } : Jvm.MethodName) prog_20_method_90_code (3 : Nat) (Option.some Jvm.ClassFile.FieldType.int)) ∈ lw_all := lw_g (lw_at lw_m10 4 rfl) rfl
theorem q2272 : (Jvm.Cond.instanceMethod ({ cls := "TableTowerModel", name := "top", desc := "(I)I" } : Jvm.MethodName)) ∈ lw_all := lw_g (lw_at lw_m10 6 rfl) rfl
theorem q2273 : (Jvm.Cond.selects "TableTowerModel" ({ cls := "TableTowerModel", name := "top", desc := "(I)I" } : Jvm.MethodName) ({ cls := "TableTowerModel", name := "top", desc := "(I)I" } : Jvm.MethodName)) ∈ lw_all := lw_g (lw_at lw_m10 7 rfl) rfl
theorem q2274 : (Jvm.Cond.code ({ cls := "TableTowerModel", name := "top", desc := "(I)I" } : Jvm.MethodName) prog_20_method_91_code (3 : Nat) (Option.some Jvm.ClassFile.FieldType.int)) ∈ lw_all := lw_g (lw_at lw_m10 8 rfl) rfl
theorem q2275 : (Jvm.Cond.constantLong "TableTowerModel" (435 : Nat) (999 : Int64)) ∈ lw_all := lw_g (lw_at lw_m10 9 rfl) rfl
theorem q2277 : (Jvm.Cond.instanceMethod ({ cls := "TableTowerModel", name := "hungriest", desc := "()I" } : Jvm.MethodName)) ∈ lw_all := lw_g (lw_at lw_m10 11 rfl) rfl
theorem q2278 : (Jvm.Cond.selects "TableTowerModel" ({ cls := "TableTowerModel", name := "hungriest", desc := "()I" } : Jvm.MethodName) ({ cls := "TableTowerModel", name := "hungriest", desc := "()I" } : Jvm.MethodName)) ∈ lw_all := lw_g (lw_at lw_m10 12 rfl) rfl
theorem q2279 : (Jvm.Cond.code ({ cls := "TableTowerModel", name := "hungriest", desc := "()I" } : Jvm.MethodName) prog_20_method_92_code (4 : Nat) (Option.some Jvm.ClassFile.FieldType.int)) ∈ lw_all := lw_g (lw_at lw_m10 13 rfl) rfl
theorem q2281 : (Jvm.Cond.instanceMethod ({ cls := "TableTowerModel", name := "out", desc := "(I)I" } : Jvm.MethodName)) ∈ lw_all := lw_g (lw_at lw_m10 15 rfl) rfl
theorem q2282 : (Jvm.Cond.selects "TableTowerModel" ({ cls := "TableTowerModel", name := "out", desc := "(I)I" } : Jvm.MethodName) ({ cls := "TableTowerModel", name := "out", desc := "(I)I" } : Jvm.MethodName)) ∈ lw_all := lw_g (lw_at lw_m10 16 rfl) rfl
theorem q2283 : (Jvm.Cond.code ({ cls := "TableTowerModel", name := "out", desc := "(I)I" } : Jvm.MethodName) prog_20_method_94_code (5 : Nat) (Option.some Jvm.ClassFile.FieldType.int)) ∈ lw_all := lw_g (lw_at lw_m10 17 rfl) rfl
theorem q2284 : (Jvm.Cond.methodLink "TableTowerModel" (437 : Nat) ({ cls := "TableTowerModel", name := "takeOffAll", desc := "(I)V" } : Jvm.MethodName)) ∈ lw_all := lw_g (lw_at lw_m10 18 rfl) rfl
theorem q2285 : (Jvm.Cond.privateMethod ({ cls := "TableTowerModel", name := "takeOffAll", desc := "(I)V" } : Jvm.MethodName)) ∈ lw_tbl := lw_at lw_m10 19 rfl
theorem q2286 : (Jvm.Cond.instanceMethod ({ cls := "TableTowerModel", name := "takeOffAll", desc := "(I)V" } : Jvm.MethodName)) ∈ lw_all := lw_g (lw_at lw_m10 20 rfl) rfl
theorem q2287 : (Jvm.Cond.code ({ cls := "TableTowerModel", name := "takeOffAll", desc := "(I)V" } : Jvm.MethodName) prog_20_method_93_code (3 : Nat) (Option.none : Option Jvm.ClassFile.FieldType)) ∈ lw_all := lw_g (lw_at lw_m10 21 rfl) rfl
theorem q2289 : (Jvm.Cond.instanceMethod ({ cls := "TableTowerModel", name := "relief", desc := "()I" } : Jvm.MethodName)) ∈ lw_all := lw_g (lw_at lw_m10 23 rfl) rfl
theorem q2290 : (Jvm.Cond.selects "TableTowerModel" ({ cls := "TableTowerModel", name := "relief", desc := "()I" } : Jvm.MethodName) ({ cls := "TableTowerModel", name := "relief", desc := "()I" } : Jvm.MethodName)) ∈ lw_all := lw_g (lw_at lw_m10 24 rfl) rfl
theorem q2291 : (Jvm.Cond.code ({ cls := "TableTowerModel", name := "relief", desc := "()I" } : Jvm.MethodName) prog_20_method_95_code (5 : Nat) (Option.some Jvm.ClassFile.FieldType.int)) ∈ lw_all := lw_g (lw_at lw_m10 25 rfl) rfl
theorem q2293 : (Jvm.Cond.instanceMethod ({ cls := "TableTowerModel", name := "oneWedge", desc := "()I" } : Jvm.MethodName)) ∈ lw_all := lw_g (lw_at lw_m10 27 rfl) rfl
theorem q2294 : (Jvm.Cond.selects "TableTowerModel" ({ cls := "TableTowerModel", name := "oneWedge", desc := "()I" } : Jvm.MethodName) ({ cls := "TableTowerModel", name := "oneWedge", desc := "()I" } : Jvm.MethodName)) ∈ lw_all := lw_g (lw_at lw_m10 28 rfl) rfl
theorem q2295 : (Jvm.Cond.code ({ cls := "TableTowerModel", name := "oneWedge", desc := "()I" } : Jvm.MethodName) prog_20_method_96_code (6 : Nat) (Option.some Jvm.ClassFile.FieldType.int)) ∈ lw_all := lw_g (lw_at lw_m10 29 rfl) rfl
theorem q2297 : (Jvm.Cond.instanceMethod ({ cls := "TableTowerModel", name := "swap", desc := "()I" } : Jvm.MethodName)) ∈ lw_all := lw_g (lw_at lw_m10 31 rfl) rfl
theorem q2298 : (Jvm.Cond.selects "TableTowerModel" ({ cls := "TableTowerModel", name := "swap", desc := "()I" } : Jvm.MethodName) ({ cls := "TableTowerModel", name := "swap", desc := "()I" } : Jvm.MethodName)) ∈ lw_all := lw_g (lw_at lw_m10 32 rfl) rfl
theorem q2299 : (Jvm.Cond.code ({ cls := "TableTowerModel", name := "swap", desc := "()I" } : Jvm.MethodName) prog_20_method_97_code (6 : Nat) (Option.some Jvm.ClassFile.FieldType.int)) ∈ lw_all := lw_g (lw_at lw_m10 33 rfl) rfl
theorem q2301 : (Jvm.Cond.instanceMethod ({ cls := "TableTowerModel", name := "slack", desc := "(I)I" } : Jvm.MethodName)) ∈ lw_all := lw_g (lw_at lw_m10 35 rfl) rfl
theorem q2302 : (Jvm.Cond.selects "TableTowerModel" ({ cls := "TableTowerModel", name := "slack", desc := "(I)I" } : Jvm.MethodName) ({ cls := "TableTowerModel", name := "slack", desc := "(I)I" } : Jvm.MethodName)) ∈ lw_all := lw_g (lw_at lw_m10 36 rfl) rfl
theorem q2303 : (Jvm.Cond.code ({ cls := "TableTowerModel", name := "slack", desc := "(I)I" } : Jvm.MethodName) prog_20_method_98_code (2 : Nat) (Option.some Jvm.ClassFile.FieldType.int)) ∈ lw_all := lw_g (lw_at lw_m10 37 rfl) rfl
theorem q2305 : (Jvm.Cond.instanceMethod ({ cls := "TableTowerModel", name := "crooked", desc := "()I" } : Jvm.MethodName)) ∈ lw_all := lw_g (lw_at lw_m10 39 rfl) rfl
theorem q2306 : (Jvm.Cond.selects "TableTowerModel" ({ cls := "TableTowerModel", name := "crooked", desc := "()I" } : Jvm.MethodName) ({ cls := "TableTowerModel", name := "crooked", desc := "()I" } : Jvm.MethodName)) ∈ lw_all := lw_g (lw_at lw_m10 40 rfl) rfl
theorem q2307 : (Jvm.Cond.code ({ cls := "TableTowerModel", name := "crooked", desc := "()I" } : Jvm.MethodName) prog_20_method_99_code (3 : Nat) (Option.some Jvm.ClassFile.FieldType.int)) ∈ lw_all := lw_g (lw_at lw_m10 41 rfl) rfl
theorem q2309 : (Jvm.Cond.instanceMethod ({ cls := "TableTowerModel", name := "see", desc := "(II)I" } : Jvm.MethodName)) ∈ lw_all := lw_g (lw_at lw_m10 43 rfl) rfl
theorem q2310 : (Jvm.Cond.selects "TableTowerModel" ({ cls := "TableTowerModel", name := "see", desc := "(II)I" } : Jvm.MethodName) ({ cls := "TableTowerModel", name := "see", desc := "(II)I" } : Jvm.MethodName)) ∈ lw_all := lw_g (lw_at lw_m10 44 rfl) rfl
theorem q2311 : (Jvm.Cond.code ({ cls := "TableTowerModel", name := "see", desc := "(II)I" } : Jvm.MethodName) prog_20_method_100_code (3 : Nat) (Option.some Jvm.ClassFile.FieldType.int)) ∈ lw_all := lw_g (lw_at lw_m10 45 rfl) rfl
theorem q2312 : (Jvm.Cond.constantLong "TableTowerModel" (440 : Nat) (-99 : Int64)) ∈ lw_all := lw_g (lw_at lw_m10 46 rfl) rfl
theorem q2314 : (Jvm.Cond.instanceMethod ({ cls := "TableTowerModel", name := "which", desc := "(I)I" } : Jvm.MethodName)) ∈ lw_all := lw_g (lw_at lw_m10 48 rfl) rfl
theorem q2315 : (Jvm.Cond.selects "TableTowerModel" ({ cls := "TableTowerModel", name := "which", desc := "(I)I" } : Jvm.MethodName) ({ cls := "TableTowerModel", name := "which", desc := "(I)I" } : Jvm.MethodName)) ∈ lw_all := lw_g (lw_at lw_m10 49 rfl) rfl
theorem q2316 : (Jvm.Cond.code ({ cls := "TableTowerModel", name := "which", desc := "(I)I" } : Jvm.MethodName) prog_20_method_103_code (2 : Nat) (Option.some Jvm.ClassFile.FieldType.int)) ∈ lw_all := lw_g (lw_at lw_m10 50 rfl) rfl
theorem q2317 : (Jvm.Cond.constantLong "TableTowerModel" (448 : Nat) (2 : Int64)) ∈ lw_all := lw_g (lw_at lw_m10 51 rfl) rfl
theorem q2318 : (Jvm.Cond.methodLink "TableTowerModel" (445 : Nat) ({ cls := "TableTowerModel", name := "isAsSeen", desc := "()Z" } : Jvm.MethodName)) ∈ lw_all := lw_g (lw_at lw_m10 52 rfl) rfl
theorem q2319 : (Jvm.Cond.privateMethod ({ cls := "TableTowerModel", name := "isAsSeen", desc := "()Z" } : Jvm.MethodName)) ∈ lw_tbl := lw_at lw_m10 53 rfl
theorem q2320 : (Jvm.Cond.instanceMethod ({ cls := "TableTowerModel", name := "isAsSeen", desc := "()Z" } : Jvm.MethodName)) ∈ lw_all := lw_g (lw_at lw_m10 54 rfl) rfl
theorem q2321 : (Jvm.Cond.code ({ cls := "TableTowerModel", name := "isAsSeen", desc := "()Z" } : Jvm.MethodName) prog_20_method_101_code (2 : Nat) (Option.some Jvm.ClassFile.FieldType.boolean)) ∈ lw_all := lw_g (lw_at lw_m10 55 rfl) rfl
theorem q2322 : (Jvm.Cond.methodLink "TableTowerModel" (450 : Nat) ({ cls := "TableTowerModel", name := "tellFits", desc := "()V" } : Jvm.MethodName)) ∈ lw_all := lw_g (lw_at lw_m10 56 rfl) rfl
theorem q2323 : (Jvm.Cond.privateMethod ({ cls := "TableTowerModel", name := "tellFits", desc := "()V" } : Jvm.MethodName)) ∈ lw_tbl := lw_at lw_m10 57 rfl
theorem q2324 : (Jvm.Cond.instanceMethod ({ cls := "TableTowerModel", name := "tellFits", desc := "()V" } : Jvm.MethodName)) ∈ lw_all := lw_g (lw_at lw_m10 58 rfl) rfl
theorem q2325 : (Jvm.Cond.code ({ cls := "TableTowerModel", name := "tellFits", desc := "()V" } : Jvm.MethodName) prog_20_method_102_code (5 : Nat) (Option.none : Option Jvm.ClassFile.FieldType)) ∈ lw_all := lw_g (lw_at lw_m10 59 rfl) rfl
theorem q2327 : (Jvm.Cond.instanceMethod ({ cls := "TableTowerModel", name := "look", desc := "()I" } : Jvm.MethodName)) ∈ lw_all := lw_g (lw_at lw_m10 61 rfl) rfl
theorem q2328 : (Jvm.Cond.selects "TableTowerModel" ({ cls := "TableTowerModel", name := "look", desc := "()I" } : Jvm.MethodName) ({ cls := "TableTowerModel", name := "look", desc := "()I" } : Jvm.MethodName)) ∈ lw_all := lw_g (lw_at lw_m10 62 rfl) rfl
theorem q2329 : (Jvm.Cond.code ({ cls := "TableTowerModel", name := "look", desc := "()I" } : Jvm.MethodName) prog_20_method_105_code (5 : Nat) (Option.some Jvm.ClassFile.FieldType.int)) ∈ lw_all := lw_g (lw_at lw_m10 63 rfl) rfl
theorem q2330 : (Jvm.Cond.methodLink "TableTowerModel" (453 : Nat) ({ cls := "TableTowerModel", name := "unlike", desc := "(I)I" } : Jvm.MethodName)) ∈ lw_all := lw_g (lw_at lw_m10 64 rfl) rfl
theorem q2331 : (Jvm.Cond.privateMethod ({ cls := "TableTowerModel", name := "unlike", desc := "(I)I" } : Jvm.MethodName)) ∈ lw_tbl := lw_at lw_m10 65 rfl
theorem q2332 : (Jvm.Cond.instanceMethod ({ cls := "TableTowerModel", name := "unlike", desc := "(I)I" } : Jvm.MethodName)) ∈ lw_all := lw_g (lw_at lw_m10 66 rfl) rfl
theorem q2333 : (Jvm.Cond.code ({ cls := "TableTowerModel", name := "unlike", desc := "(I)I" } : Jvm.MethodName) prog_20_method_104_code (8 : Nat) (Option.some Jvm.ClassFile.FieldType.int)) ∈ lw_all := lw_g (lw_at lw_m10 67 rfl) rfl
theorem q2335 : (Jvm.Cond.instanceMethod ({ cls := "TableTowerModel", name := "forget", desc := "()V" } : Jvm.MethodName)) ∈ lw_all := lw_g (lw_at lw_m10 69 rfl) rfl
theorem q2336 : (Jvm.Cond.selects "TableTowerModel" ({ cls := "TableTowerModel", name := "forget", desc := "()V" } : Jvm.MethodName) ({ cls := "TableTowerModel", name := "forget", desc := "()V" } : Jvm.MethodName)) ∈ lw_all := lw_g (lw_at lw_m10 70 rfl) rfl
theorem q2337 : (Jvm.Cond.code ({ cls := "TableTowerModel", name := "forget", desc := "()V" } : Jvm.MethodName) prog_20_method_106_code (1 : Nat) (Option.none : Option Jvm.ClassFile.FieldType)) ∈ lw_all := lw_g (lw_at lw_m10 71 rfl) rfl
theorem q2339 : (Jvm.Cond.instanceMethod ({ cls := "TableTowerModel", name := "game", desc := "(I)I" } : Jvm.MethodName)) ∈ lw_all := lw_g (lw_at lw_m10 73 rfl) rfl
theorem q2340 : (Jvm.Cond.selects "TableTowerModel" ({ cls := "TableTowerModel", name := "game", desc := "(I)I" } : Jvm.MethodName) ({ cls := "TableTowerModel", name := "game", desc := "(I)I" } : Jvm.MethodName)) ∈ lw_all := lw_g (lw_at lw_m10 74 rfl) rfl
theorem q2341 : (Jvm.Cond.code ({ cls := "TableTowerModel", name := "game", desc := "(I)I" } : Jvm.MethodName) prog_20_method_109_code (5 : Nat) (Option.some Jvm.ClassFile.FieldType.int)) ∈ lw_all := lw_g (lw_at lw_m10 75 rfl) rfl
theorem q2342 : (Jvm.Cond.methodLink "TableTowerModel" (459 : Nat) ({ cls := "TableTowerModel", name := "rests", desc := "(II)Z" } : Jvm.MethodName)) ∈ lw_all := lw_g (lw_at lw_m10 76 rfl) rfl
theorem q2343 : (Jvm.Cond.privateMethod ({ cls := "TableTowerModel", name := "rests", desc := "(II)Z" } : Jvm.MethodName)) ∈ lw_tbl := lw_at lw_m10 77 rfl
theorem q2344 : (Jvm.Cond.instanceMethod ({ cls := "TableTowerModel", name := "rests", desc := "(II)Z" } : Jvm.MethodName)) ∈ lw_all := lw_g (lw_at lw_m10 78 rfl) rfl
theorem q2345 : (Jvm.Cond.code ({ cls := "TableTowerModel", name := "rests", desc := "(II)Z" } : Jvm.MethodName) prog_20_method_108_code (4 : Nat) (Option.some Jvm.ClassFile.FieldType.boolean)) ∈ lw_all := lw_g (lw_at lw_m10 79 rfl) rfl
theorem q2346 : (Jvm.Cond.methodLink "TableTowerModel" (456 : Nat) ({ cls := "TableTowerModel", name := "gain", desc := "(III)I" } : Jvm.MethodName)) ∈ lw_all := lw_g (lw_at lw_m10 80 rfl) rfl
theorem q2347 : (Jvm.Cond.privateMethod ({ cls := "TableTowerModel", name := "gain", desc := "(III)I" } : Jvm.MethodName)) ∈ lw_tbl := lw_at lw_m10 81 rfl
theorem q2348 : (Jvm.Cond.instanceMethod ({ cls := "TableTowerModel", name := "gain", desc := "(III)I" } : Jvm.MethodName)) ∈ lw_all := lw_g (lw_at lw_m10 82 rfl) rfl
theorem q2349 : (Jvm.Cond.code ({ cls := "TableTowerModel", name := "gain", desc := "(III)I" } : Jvm.MethodName) prog_20_method_107_code (7 : Nat) (Option.some Jvm.ClassFile.FieldType.int)) ∈ lw_all := lw_g (lw_at lw_m10 83 rfl) rfl
theorem q2351 : (Jvm.Cond.instanceMethod ({ cls := "TableTowerModel", name := "decades", desc := "(III)I" } : Jvm.MethodName)) ∈ lw_all := lw_g (lw_at lw_m10 85 rfl) rfl
theorem q2352 : (Jvm.Cond.selects "TableTowerModel" ({ cls := "TableTowerModel", name := "decades", desc := "(III)I" } : Jvm.MethodName) ({ cls := "TableTowerModel", name := "decades", desc := "(III)I" } : Jvm.MethodName)) ∈ lw_all := lw_g (lw_at lw_m10 86 rfl) rfl
theorem q2353 : (Jvm.Cond.code ({ cls := "TableTowerModel", name := "decades", desc := "(III)I" } : Jvm.MethodName) prog_20_method_112_code (7 : Nat) (Option.some Jvm.ClassFile.FieldType.int)) ∈ lw_all := lw_g (lw_at lw_m10 87 rfl) rfl
theorem q2354 : (Jvm.Cond.constantLong "TableTowerModel" (469 : Nat) (40 : Int64)) ∈ lw_all := lw_g (lw_at lw_m10 88 rfl) rfl
theorem q2355 : (Jvm.Cond.methodLink "TableTowerModel" (471 : Nat) ({ cls := "TableTowerModel", name := "aYear", desc := "()V" } : Jvm.MethodName)) ∈ lw_all := lw_g (lw_at lw_m10 89 rfl) rfl
theorem q2356 : (Jvm.Cond.privateMethod ({ cls := "TableTowerModel", name := "aYear", desc := "()V" } : Jvm.MethodName)) ∈ lw_tbl := lw_at lw_m10 90 rfl
theorem q2357 : (Jvm.Cond.instanceMethod ({ cls := "TableTowerModel", name := "aYear", desc := "()V" } : Jvm.MethodName)) ∈ lw_all := lw_g (lw_at lw_m10 91 rfl) rfl
theorem q2358 : (Jvm.Cond.code ({ cls := "TableTowerModel", name := "aYear", desc := "()V" } : Jvm.MethodName) prog_20_method_111_code (3 : Nat) (Option.none : Option Jvm.ClassFile.FieldType)) ∈ lw_all := lw_g (lw_at lw_m10 92 rfl) rfl
theorem q2359 : (Jvm.Cond.methodLink "TableTowerModel" (466 : Nat) ({ cls := "TableTowerModel", name := "drawOf", desc := "(I)I" } : Jvm.MethodName)) ∈ lw_all := lw_g (lw_at lw_m10 93 rfl) rfl
theorem q2360 : (Jvm.Cond.privateMethod ({ cls := "TableTowerModel", name := "drawOf", desc := "(I)I" } : Jvm.MethodName)) ∈ lw_tbl := lw_at lw_m10 94 rfl
theorem q2361 : (Jvm.Cond.instanceMethod ({ cls := "TableTowerModel", name := "drawOf", desc := "(I)I" } : Jvm.MethodName)) ∈ lw_all := lw_g (lw_at lw_m10 95 rfl) rfl
theorem q2362 : (Jvm.Cond.code ({ cls := "TableTowerModel", name := "drawOf", desc := "(I)I" } : Jvm.MethodName) prog_20_method_110_code (2 : Nat) (Option.some Jvm.ClassFile.FieldType.int)) ∈ lw_all := lw_g (lw_at lw_m10 96 rfl) rfl
theorem q2363 : (Jvm.Cond.constant "TableTowerModel" (465 : Nat) (1103515245 : Int32)) ∈ lw_all := lw_g (lw_at lw_m10 97 rfl) rfl
theorem q2365 : (Jvm.Cond.instanceMethod ({ cls := "TableTowerModel", name := "image", desc := "()V" } : Jvm.MethodName)) ∈ lw_all := lw_g (lw_at lw_m10 99 rfl) rfl
theorem q2366 : (Jvm.Cond.selects "TableTowerModel" ({ cls := "TableTowerModel", name := "image", desc := "()V" } : Jvm.MethodName) ({ cls := "TableTowerModel", name := "image", desc := "()V" } : Jvm.MethodName)) ∈ lw_all := lw_g (lw_at lw_m10 100 rfl) rfl
theorem q2367 : (Jvm.Cond.code ({ cls := "TableTowerModel", name := "image", desc := "()V" } : Jvm.MethodName) prog_20_method_114_code (1 : Nat) (Option.none : Option Jvm.ClassFile.FieldType)) ∈ lw_all := lw_g (lw_at lw_m10 101 rfl) rfl
theorem q2368 : (Jvm.Cond.methodLink "TableTowerModel" (480 : Nat) ({ cls := "TableTowerModel", name := "be", desc := "([I[I)V" } : Jvm.MethodName)) ∈ lw_all := lw_g (lw_at lw_m10 102 rfl) rfl
theorem q2369 : (Jvm.Cond.static ({ cls := "TableTowerModel", name := "be", desc := "([I[I)V" } : Jvm.MethodName)) ∈ lw_all := lw_g (lw_at lw_m10 103 rfl) rfl
theorem q2370 : (Jvm.Cond.code ({ cls := "TableTowerModel", name := "be", desc := "([I[I)V" } : Jvm.MethodName) prog_20_method_113_code (3 : Nat) (Option.none : Option Jvm.ClassFile.FieldType)) ∈ lw_all := lw_g (lw_at lw_m10 104 rfl) rfl
theorem q2372 : (Jvm.Cond.instanceMethod ({ cls := "TableTowerModel", name := "restore", desc := "()Z" } : Jvm.MethodName)) ∈ lw_all := lw_g (lw_at lw_m10 106 rfl) rfl
theorem q2373 : (Jvm.Cond.selects "TableTowerModel" ({ cls := "TableTowerModel", name := "restore", desc := "()Z" } : Jvm.MethodName) ({ cls := "TableTowerModel", name := "restore", desc := "()Z" } : Jvm.MethodName)) ∈ lw_all := lw_g (lw_at lw_m10 107 rfl) rfl
theorem q2374 : (Jvm.Cond.code ({ cls := "TableTowerModel", name := "restore", desc := "()Z" } : Jvm.MethodName) prog_20_method_115_code (1 : Nat) (Option.some Jvm.ClassFile.FieldType.boolean)) ∈ lw_all := lw_g (lw_at lw_m10 108 rfl) rfl
theorem q2402 : (Jvm.Cond.castable "TableTowerModel" "java/lang/Object") ∈ lw_tbl := lw_at lw_m10 136 rfl
theorem in_X7 : ∀ w ∈ wsX70, w ∈ lw_all := lw_in wsX70 [1788, 1790, 1792, 1794, 1796, 1798, 1800, 1802, 1804, 1806, 1808, 1810, 1812, 1814, 1816, 1818, 1820, 1822, 1824, 1826, 1828, 1830, 1832, 1834, 1836, 1838, 1840, 1842, 1844, 1846, 1848, 1850, 1852, 1854, 1856, 1858, 1860, 1862, 1864, 1866, 1868, 1870, 1872, 1874, 1876, 1878, 1880, 1882, 1884, 1886, 1888, 1890, 1892, 1894, 1896, 1898, 1900, 1902] (by decide +kernel) (by decide +kernel)

