set_option maxRecDepth 100000
abbrev cX7_isTable : ByteArray := prog_20_method_7_code
def yX7_isTable : MethodName := ⟨RX7, "isTable", "(I)Z"⟩
def dkwX7_isTable_0 : List UInt8 := [27, 133, 9, 42, 180, 0, 42, 3, 46, 4, 100, 133, 184, 0, 146, 172]
abbrev dktX7_isTable_0 : List UInt8 := dkwX7_isTable_0 ++ []
theorem dksX7_isTable_0 : cX7_isTable.data.toList.drop 0 = dktX7_isTable_0 := by decide +kernel
theorem dX7_isTable_0 : decode cX7_isTable 0 = .ok (.iload_n 1, 1) := dk_27 (dk_at dksX7_isTable_0 0 rfl rfl)
theorem dX7_isTable_1 : decode cX7_isTable 1 = .ok (.i2l, 1) := dk_133 (dk_at dksX7_isTable_0 1 rfl rfl)
theorem dX7_isTable_2 : decode cX7_isTable 2 = .ok (.lconst 0, 1) := dk_9 (dk_at dksX7_isTable_0 2 rfl rfl)
theorem dX7_isTable_3 : decode cX7_isTable 3 = .ok (.aload_n 0, 1) := dk_42 (dk_at dksX7_isTable_0 3 rfl rfl)
theorem dX7_isTable_4 : decode cX7_isTable 4 = .ok (.getfield 42, 3) := dk_180 0 42 (dk_at dksX7_isTable_0 4 rfl rfl)
theorem dX7_isTable_7 : decode cX7_isTable 7 = .ok (.iconst 0, 1) := dk_3 (dk_at dksX7_isTable_0 7 rfl rfl)
theorem dX7_isTable_8 : decode cX7_isTable 8 = .ok (.iaload, 1) := dk_46 (dk_at dksX7_isTable_0 8 rfl rfl)
theorem dX7_isTable_9 : decode cX7_isTable 9 = .ok (.iconst 1, 1) := dk_4 (dk_at dksX7_isTable_0 9 rfl rfl)
theorem dX7_isTable_10 : decode cX7_isTable 10 = .ok (.isub, 1) := dk_100 (dk_at dksX7_isTable_0 10 rfl rfl)
theorem dX7_isTable_11 : decode cX7_isTable 11 = .ok (.i2l, 1) := dk_133 (dk_at dksX7_isTable_0 11 rfl rfl)
theorem dX7_isTable_12 : decode cX7_isTable 12 = .ok (.invokestatic 146, 3) := dk_184 0 146 (dk_at dksX7_isTable_0 12 rfl rfl)
theorem dX7_isTable_15 : decode cX7_isTable 15 = .ok (.ireturn, 1) := dk_172 (dk_at dksX7_isTable_0 15 rfl rfl)
abbrev cX7_isIn : ByteArray := prog_20_method_5_code
def yX7_isIn : MethodName := ⟨RX7, "isIn", "(JJJ)Z"⟩
def dkwX7_isIn_0 : List UInt8 := [30, 32, 148, 155, 0, 14, 30, 22, 4, 148, 157, 0, 7, 4, 167, 0, 4, 3, 172]
abbrev dktX7_isIn_0 : List UInt8 := dkwX7_isIn_0 ++ []
theorem dksX7_isIn_0 : cX7_isIn.data.toList.drop 0 = dktX7_isIn_0 := by decide +kernel
theorem dX7_isIn_0 : decode cX7_isIn 0 = .ok (.lload_n 0, 1) := dk_30 (dk_at dksX7_isIn_0 0 rfl rfl)
theorem dX7_isIn_1 : decode cX7_isIn 1 = .ok (.lload_n 2, 1) := dk_32 (dk_at dksX7_isIn_0 1 rfl rfl)
theorem dX7_isIn_2 : decode cX7_isIn 2 = .ok (.lcmp, 1) := dk_148 (dk_at dksX7_isIn_0 2 rfl rfl)
theorem dX7_isIn_3 : decode cX7_isIn 3 = .ok (.ifCond .lt 14, 3) := dk_155 0 14 (dk_at dksX7_isIn_0 3 rfl rfl)
theorem dX7_isIn_6 : decode cX7_isIn 6 = .ok (.lload_n 0, 1) := dk_30 (dk_at dksX7_isIn_0 6 rfl rfl)
theorem dX7_isIn_7 : decode cX7_isIn 7 = .ok (.lload 4, 2) := dk_22 4 (dk_at dksX7_isIn_0 7 rfl rfl)
theorem dX7_isIn_9 : decode cX7_isIn 9 = .ok (.lcmp, 1) := dk_148 (dk_at dksX7_isIn_0 9 rfl rfl)
theorem dX7_isIn_10 : decode cX7_isIn 10 = .ok (.ifCond .gt 7, 3) := dk_157 0 7 (dk_at dksX7_isIn_0 10 rfl rfl)
theorem dX7_isIn_13 : decode cX7_isIn 13 = .ok (.iconst 1, 1) := dk_4 (dk_at dksX7_isIn_0 13 rfl rfl)
theorem dX7_isIn_14 : decode cX7_isIn 14 = .ok (.goto 4, 3) := dk_167 0 4 (dk_at dksX7_isIn_0 14 rfl rfl)
theorem dX7_isIn_17 : decode cX7_isIn 17 = .ok (.iconst 0, 1) := dk_3 (dk_at dksX7_isIn_0 17 rfl rfl)
theorem dX7_isIn_18 : decode cX7_isIn 18 = .ok (.ireturn, 1) := dk_172 (dk_at dksX7_isIn_0 18 rfl rfl)
abbrev cX7_levelOf : ByteArray := prog_20_method_36_code
def yX7_levelOf : MethodName := ⟨RX7, "levelOf", "(I)I"⟩
def dkwX7_levelOf_1 : List UInt8 := [132, 2, 1, 167, 255, 233, 2, 172]
abbrev dktX7_levelOf_1 : List UInt8 := dkwX7_levelOf_1 ++ []
def dkwX7_levelOf_0 : List UInt8 := [3, 61, 28, 42, 180, 0, 150, 162, 0, 21, 42, 180, 0, 70, 28, 46, 27, 160, 0, 5, 28, 172]
abbrev dktX7_levelOf_0 : List UInt8 := dkwX7_levelOf_0 ++ dktX7_levelOf_1
theorem dksX7_levelOf_0 : cX7_levelOf.data.toList.drop 0 = dktX7_levelOf_0 := by decide +kernel
theorem dksX7_levelOf_1 : cX7_levelOf.data.toList.drop 22 = dktX7_levelOf_1 := dk_seg dksX7_levelOf_0 22 rfl rfl
theorem dX7_levelOf_0 : decode cX7_levelOf 0 = .ok (.iconst 0, 1) := dk_3 (dk_at dksX7_levelOf_0 0 rfl rfl)
theorem dX7_levelOf_1 : decode cX7_levelOf 1 = .ok (.istore_n 2, 1) := dk_61 (dk_at dksX7_levelOf_0 1 rfl rfl)
theorem dX7_levelOf_2 : decode cX7_levelOf 2 = .ok (.iload_n 2, 1) := dk_28 (dk_at dksX7_levelOf_0 2 rfl rfl)
theorem dX7_levelOf_3 : decode cX7_levelOf 3 = .ok (.aload_n 0, 1) := dk_42 (dk_at dksX7_levelOf_0 3 rfl rfl)
theorem dX7_levelOf_4 : decode cX7_levelOf 4 = .ok (.getfield 150, 3) := dk_180 0 150 (dk_at dksX7_levelOf_0 4 rfl rfl)
theorem dX7_levelOf_7 : decode cX7_levelOf 7 = .ok (.if_icmp .ge 21, 3) := dk_162 0 21 (dk_at dksX7_levelOf_0 7 rfl rfl)
theorem dX7_levelOf_10 : decode cX7_levelOf 10 = .ok (.aload_n 0, 1) := dk_42 (dk_at dksX7_levelOf_0 10 rfl rfl)
theorem dX7_levelOf_11 : decode cX7_levelOf 11 = .ok (.getfield 70, 3) := dk_180 0 70 (dk_at dksX7_levelOf_0 11 rfl rfl)
theorem dX7_levelOf_14 : decode cX7_levelOf 14 = .ok (.iload_n 2, 1) := dk_28 (dk_at dksX7_levelOf_0 14 rfl rfl)
theorem dX7_levelOf_15 : decode cX7_levelOf 15 = .ok (.iaload, 1) := dk_46 (dk_at dksX7_levelOf_0 15 rfl rfl)
theorem dX7_levelOf_16 : decode cX7_levelOf 16 = .ok (.iload_n 1, 1) := dk_27 (dk_at dksX7_levelOf_0 16 rfl rfl)
theorem dX7_levelOf_17 : decode cX7_levelOf 17 = .ok (.if_icmp .ne 5, 3) := dk_160 0 5 (dk_at dksX7_levelOf_0 17 rfl rfl)
theorem dX7_levelOf_20 : decode cX7_levelOf 20 = .ok (.iload_n 2, 1) := dk_28 (dk_at dksX7_levelOf_0 20 rfl rfl)
theorem dX7_levelOf_21 : decode cX7_levelOf 21 = .ok (.ireturn, 1) := dk_172 (dk_at dksX7_levelOf_0 21 rfl rfl)
theorem dX7_levelOf_22 : decode cX7_levelOf 22 = .ok (.iinc 2 1, 3) := dk_132 2 1 (dk_at dksX7_levelOf_1 0 rfl rfl)
theorem dX7_levelOf_25 : decode cX7_levelOf 25 = .ok (.goto (-23), 3) := dk_167 255 233 (dk_at dksX7_levelOf_1 3 rfl rfl)
theorem dX7_levelOf_28 : decode cX7_levelOf 28 = .ok (.iconst (-1), 1) := dk_2 (dk_at dksX7_levelOf_1 6 rfl rfl)
theorem dX7_levelOf_29 : decode cX7_levelOf 29 = .ok (.ireturn, 1) := dk_172 (dk_at dksX7_levelOf_1 7 rfl rfl)
abbrev cX7_by : ByteArray := prog_20_method_51_code
def yX7_by : MethodName := ⟨RX7, "by", "()I"⟩
def dkwX7_by_0 : List UInt8 := [42, 3, 181, 0, 143, 4, 42, 180, 0, 42, 3, 46, 120, 4, 100, 42, 182, 1, 83, 2, 130, 126, 172]
abbrev dktX7_by_0 : List UInt8 := dkwX7_by_0 ++ []
theorem dksX7_by_0 : cX7_by.data.toList.drop 0 = dktX7_by_0 := by decide +kernel
theorem dX7_by_0 : decode cX7_by 0 = .ok (.aload_n 0, 1) := dk_42 (dk_at dksX7_by_0 0 rfl rfl)
theorem dX7_by_1 : decode cX7_by 1 = .ok (.iconst 0, 1) := dk_3 (dk_at dksX7_by_0 1 rfl rfl)
theorem dX7_by_2 : decode cX7_by 2 = .ok (.putfield 143, 3) := dk_181 0 143 (dk_at dksX7_by_0 2 rfl rfl)
theorem dX7_by_5 : decode cX7_by 5 = .ok (.iconst 1, 1) := dk_4 (dk_at dksX7_by_0 5 rfl rfl)
theorem dX7_by_6 : decode cX7_by 6 = .ok (.aload_n 0, 1) := dk_42 (dk_at dksX7_by_0 6 rfl rfl)
theorem dX7_by_7 : decode cX7_by 7 = .ok (.getfield 42, 3) := dk_180 0 42 (dk_at dksX7_by_0 7 rfl rfl)
theorem dX7_by_10 : decode cX7_by 10 = .ok (.iconst 0, 1) := dk_3 (dk_at dksX7_by_0 10 rfl rfl)
theorem dX7_by_11 : decode cX7_by 11 = .ok (.iaload, 1) := dk_46 (dk_at dksX7_by_0 11 rfl rfl)
theorem dX7_by_12 : decode cX7_by 12 = .ok (.ishl, 1) := dk_120 (dk_at dksX7_by_0 12 rfl rfl)
theorem dX7_by_13 : decode cX7_by 13 = .ok (.iconst 1, 1) := dk_4 (dk_at dksX7_by_0 13 rfl rfl)
theorem dX7_by_14 : decode cX7_by 14 = .ok (.isub, 1) := dk_100 (dk_at dksX7_by_0 14 rfl rfl)
theorem dX7_by_15 : decode cX7_by 15 = .ok (.aload_n 0, 1) := dk_42 (dk_at dksX7_by_0 15 rfl rfl)
theorem dX7_by_16 : decode cX7_by 16 = .ok (.invokevirtual 339, 3) := dk_182 1 83 (dk_at dksX7_by_0 16 rfl rfl)
theorem dX7_by_19 : decode cX7_by 19 = .ok (.iconst (-1), 1) := dk_2 (dk_at dksX7_by_0 19 rfl rfl)
theorem dX7_by_20 : decode cX7_by 20 = .ok (.ixor, 1) := dk_130 (dk_at dksX7_by_0 20 rfl rfl)
theorem dX7_by_21 : decode cX7_by 21 = .ok (.iand, 1) := dk_126 (dk_at dksX7_by_0 21 rfl rfl)
theorem dX7_by_22 : decode cX7_by 22 = .ok (.ireturn, 1) := dk_172 (dk_at dksX7_by_0 22 rfl rfl)
abbrev cX7_inTower : ByteArray := prog_20_method_48_code
def yX7_inTower : MethodName := ⟨RX7, "inTower", "()I"⟩
def dkwX7_inTower_1 : List UInt8 := [132, 2, 1, 167, 255, 234, 27, 172]
abbrev dktX7_inTower_1 : List UInt8 := dkwX7_inTower_1 ++ []
def dkwX7_inTower_0 : List UInt8 := [3, 60, 3, 61, 28, 42, 180, 0, 150, 162, 0, 20, 27, 4, 42, 180, 0, 70, 28, 46, 120, 128, 60]
abbrev dktX7_inTower_0 : List UInt8 := dkwX7_inTower_0 ++ dktX7_inTower_1
theorem dksX7_inTower_0 : cX7_inTower.data.toList.drop 0 = dktX7_inTower_0 := by decide +kernel
theorem dksX7_inTower_1 : cX7_inTower.data.toList.drop 23 = dktX7_inTower_1 := dk_seg dksX7_inTower_0 23 rfl rfl
theorem dX7_inTower_0 : decode cX7_inTower 0 = .ok (.iconst 0, 1) := dk_3 (dk_at dksX7_inTower_0 0 rfl rfl)
theorem dX7_inTower_1 : decode cX7_inTower 1 = .ok (.istore_n 1, 1) := dk_60 (dk_at dksX7_inTower_0 1 rfl rfl)
theorem dX7_inTower_2 : decode cX7_inTower 2 = .ok (.iconst 0, 1) := dk_3 (dk_at dksX7_inTower_0 2 rfl rfl)
theorem dX7_inTower_3 : decode cX7_inTower 3 = .ok (.istore_n 2, 1) := dk_61 (dk_at dksX7_inTower_0 3 rfl rfl)
theorem dX7_inTower_4 : decode cX7_inTower 4 = .ok (.iload_n 2, 1) := dk_28 (dk_at dksX7_inTower_0 4 rfl rfl)
theorem dX7_inTower_5 : decode cX7_inTower 5 = .ok (.aload_n 0, 1) := dk_42 (dk_at dksX7_inTower_0 5 rfl rfl)
theorem dX7_inTower_6 : decode cX7_inTower 6 = .ok (.getfield 150, 3) := dk_180 0 150 (dk_at dksX7_inTower_0 6 rfl rfl)
theorem dX7_inTower_9 : decode cX7_inTower 9 = .ok (.if_icmp .ge 20, 3) := dk_162 0 20 (dk_at dksX7_inTower_0 9 rfl rfl)
theorem dX7_inTower_12 : decode cX7_inTower 12 = .ok (.iload_n 1, 1) := dk_27 (dk_at dksX7_inTower_0 12 rfl rfl)
theorem dX7_inTower_13 : decode cX7_inTower 13 = .ok (.iconst 1, 1) := dk_4 (dk_at dksX7_inTower_0 13 rfl rfl)
theorem dX7_inTower_14 : decode cX7_inTower 14 = .ok (.aload_n 0, 1) := dk_42 (dk_at dksX7_inTower_0 14 rfl rfl)
theorem dX7_inTower_15 : decode cX7_inTower 15 = .ok (.getfield 70, 3) := dk_180 0 70 (dk_at dksX7_inTower_0 15 rfl rfl)
theorem dX7_inTower_18 : decode cX7_inTower 18 = .ok (.iload_n 2, 1) := dk_28 (dk_at dksX7_inTower_0 18 rfl rfl)
theorem dX7_inTower_19 : decode cX7_inTower 19 = .ok (.iaload, 1) := dk_46 (dk_at dksX7_inTower_0 19 rfl rfl)
theorem dX7_inTower_20 : decode cX7_inTower 20 = .ok (.ishl, 1) := dk_120 (dk_at dksX7_inTower_0 20 rfl rfl)
theorem dX7_inTower_21 : decode cX7_inTower 21 = .ok (.ior, 1) := dk_128 (dk_at dksX7_inTower_0 21 rfl rfl)
theorem dX7_inTower_22 : decode cX7_inTower 22 = .ok (.istore_n 1, 1) := dk_60 (dk_at dksX7_inTower_0 22 rfl rfl)
theorem dX7_inTower_23 : decode cX7_inTower 23 = .ok (.iinc 2 1, 3) := dk_132 2 1 (dk_at dksX7_inTower_1 0 rfl rfl)
theorem dX7_inTower_26 : decode cX7_inTower 26 = .ok (.goto (-22), 3) := dk_167 255 234 (dk_at dksX7_inTower_1 3 rfl rfl)
theorem dX7_inTower_29 : decode cX7_inTower 29 = .ok (.iload_n 1, 1) := dk_27 (dk_at dksX7_inTower_1 6 rfl rfl)
theorem dX7_inTower_30 : decode cX7_inTower 30 = .ok (.ireturn, 1) := dk_172 (dk_at dksX7_inTower_1 7 rfl rfl)
abbrev cX7_level : ByteArray := prog_20_method_52_code
def yX7_level : MethodName := ⟨RX7, "level", "(II)I"⟩
def dkwX7_level_4 : List UInt8 := [167, 0, 4, 3, 172]
abbrev dktX7_level_4 : List UInt8 := dkwX7_level_4 ++ []
def dkwX7_level_3 : List UInt8 := [28, 6, 160, 0, 11, 42, 27, 182, 1, 58, 167, 0, 16, 42, 27, 182, 1, 64, 153, 0, 7, 4]
abbrev dktX7_level_3 : List UInt8 := dkwX7_level_3 ++ dktX7_level_4
def dkwX7_level_2 : List UInt8 := [160, 0, 11, 42, 27, 182, 1, 52, 167, 0, 42, 28, 5, 160, 0, 11, 42, 27, 182, 1, 55, 167, 0, 29]
abbrev dktX7_level_2 : List UInt8 := dkwX7_level_2 ++ dktX7_level_3
def dkwX7_level_1 : List UInt8 := [154, 0, 9, 42, 4, 182, 1, 13, 172, 28, 154, 0, 12, 42, 180, 0, 70, 27, 46, 167, 0, 55, 28, 4]
abbrev dktX7_level_1 : List UInt8 := dkwX7_level_1 ++ dktX7_level_2
def dkwX7_level_0 : List UInt8 := [42, 3, 181, 0, 143, 42, 27, 182, 1, 86, 153, 0, 15, 28, 133, 9, 20, 1, 89, 184, 0, 146]
abbrev dktX7_level_0 : List UInt8 := dkwX7_level_0 ++ dktX7_level_1
theorem dksX7_level_0 : cX7_level.data.toList.drop 0 = dktX7_level_0 := by decide +kernel
theorem dksX7_level_1 : cX7_level.data.toList.drop 22 = dktX7_level_1 := dk_seg dksX7_level_0 22 rfl rfl
theorem dksX7_level_2 : cX7_level.data.toList.drop 46 = dktX7_level_2 := dk_seg dksX7_level_1 24 rfl rfl
theorem dksX7_level_3 : cX7_level.data.toList.drop 70 = dktX7_level_3 := dk_seg dksX7_level_2 24 rfl rfl
theorem dksX7_level_4 : cX7_level.data.toList.drop 92 = dktX7_level_4 := dk_seg dksX7_level_3 22 rfl rfl
theorem dX7_level_0 : decode cX7_level 0 = .ok (.aload_n 0, 1) := dk_42 (dk_at dksX7_level_0 0 rfl rfl)
theorem dX7_level_1 : decode cX7_level 1 = .ok (.iconst 0, 1) := dk_3 (dk_at dksX7_level_0 1 rfl rfl)
theorem dX7_level_2 : decode cX7_level 2 = .ok (.putfield 143, 3) := dk_181 0 143 (dk_at dksX7_level_0 2 rfl rfl)
theorem dX7_level_5 : decode cX7_level 5 = .ok (.aload_n 0, 1) := dk_42 (dk_at dksX7_level_0 5 rfl rfl)
theorem dX7_level_6 : decode cX7_level 6 = .ok (.iload_n 1, 1) := dk_27 (dk_at dksX7_level_0 6 rfl rfl)
theorem dX7_level_7 : decode cX7_level 7 = .ok (.invokevirtual 342, 3) := dk_182 1 86 (dk_at dksX7_level_0 7 rfl rfl)
theorem dX7_level_10 : decode cX7_level 10 = .ok (.ifCond .eq 15, 3) := dk_153 0 15 (dk_at dksX7_level_0 10 rfl rfl)
theorem dX7_level_13 : decode cX7_level 13 = .ok (.iload_n 2, 1) := dk_28 (dk_at dksX7_level_0 13 rfl rfl)
theorem dX7_level_14 : decode cX7_level 14 = .ok (.i2l, 1) := dk_133 (dk_at dksX7_level_0 14 rfl rfl)
theorem dX7_level_15 : decode cX7_level 15 = .ok (.lconst 0, 1) := dk_9 (dk_at dksX7_level_0 15 rfl rfl)
theorem dX7_level_16 : decode cX7_level 16 = .ok (.ldc2_w 345, 3) := dk_20 1 89 (dk_at dksX7_level_0 16 rfl rfl)
theorem dX7_level_19 : decode cX7_level 19 = .ok (.invokestatic 146, 3) := dk_184 0 146 (dk_at dksX7_level_0 19 rfl rfl)
theorem dX7_level_22 : decode cX7_level 22 = .ok (.ifCond .ne 9, 3) := dk_154 0 9 (dk_at dksX7_level_1 0 rfl rfl)
theorem dX7_level_25 : decode cX7_level 25 = .ok (.aload_n 0, 1) := dk_42 (dk_at dksX7_level_1 3 rfl rfl)
theorem dX7_level_26 : decode cX7_level 26 = .ok (.iconst 1, 1) := dk_4 (dk_at dksX7_level_1 4 rfl rfl)
theorem dX7_level_27 : decode cX7_level 27 = .ok (.invokevirtual 269, 3) := dk_182 1 13 (dk_at dksX7_level_1 5 rfl rfl)
theorem dX7_level_30 : decode cX7_level 30 = .ok (.ireturn, 1) := dk_172 (dk_at dksX7_level_1 8 rfl rfl)
theorem dX7_level_31 : decode cX7_level 31 = .ok (.iload_n 2, 1) := dk_28 (dk_at dksX7_level_1 9 rfl rfl)
theorem dX7_level_32 : decode cX7_level 32 = .ok (.ifCond .ne 12, 3) := dk_154 0 12 (dk_at dksX7_level_1 10 rfl rfl)
theorem dX7_level_35 : decode cX7_level 35 = .ok (.aload_n 0, 1) := dk_42 (dk_at dksX7_level_1 13 rfl rfl)
theorem dX7_level_36 : decode cX7_level 36 = .ok (.getfield 70, 3) := dk_180 0 70 (dk_at dksX7_level_1 14 rfl rfl)
theorem dX7_level_39 : decode cX7_level 39 = .ok (.iload_n 1, 1) := dk_27 (dk_at dksX7_level_1 17 rfl rfl)
theorem dX7_level_40 : decode cX7_level 40 = .ok (.iaload, 1) := dk_46 (dk_at dksX7_level_1 18 rfl rfl)
theorem dX7_level_41 : decode cX7_level 41 = .ok (.goto 55, 3) := dk_167 0 55 (dk_at dksX7_level_1 19 rfl rfl)
theorem dX7_level_44 : decode cX7_level 44 = .ok (.iload_n 2, 1) := dk_28 (dk_at dksX7_level_1 22 rfl rfl)
theorem dX7_level_45 : decode cX7_level 45 = .ok (.iconst 1, 1) := dk_4 (dk_at dksX7_level_1 23 rfl rfl)
theorem dX7_level_46 : decode cX7_level 46 = .ok (.if_icmp .ne 11, 3) := dk_160 0 11 (dk_at dksX7_level_2 0 rfl rfl)
theorem dX7_level_49 : decode cX7_level 49 = .ok (.aload_n 0, 1) := dk_42 (dk_at dksX7_level_2 3 rfl rfl)
theorem dX7_level_50 : decode cX7_level 50 = .ok (.iload_n 1, 1) := dk_27 (dk_at dksX7_level_2 4 rfl rfl)
theorem dX7_level_51 : decode cX7_level 51 = .ok (.invokevirtual 308, 3) := dk_182 1 52 (dk_at dksX7_level_2 5 rfl rfl)
theorem dX7_level_54 : decode cX7_level 54 = .ok (.goto 42, 3) := dk_167 0 42 (dk_at dksX7_level_2 8 rfl rfl)
theorem dX7_level_57 : decode cX7_level 57 = .ok (.iload_n 2, 1) := dk_28 (dk_at dksX7_level_2 11 rfl rfl)
theorem dX7_level_58 : decode cX7_level 58 = .ok (.iconst 2, 1) := dk_5 (dk_at dksX7_level_2 12 rfl rfl)
theorem dX7_level_59 : decode cX7_level 59 = .ok (.if_icmp .ne 11, 3) := dk_160 0 11 (dk_at dksX7_level_2 13 rfl rfl)
theorem dX7_level_62 : decode cX7_level 62 = .ok (.aload_n 0, 1) := dk_42 (dk_at dksX7_level_2 16 rfl rfl)
theorem dX7_level_63 : decode cX7_level 63 = .ok (.iload_n 1, 1) := dk_27 (dk_at dksX7_level_2 17 rfl rfl)
theorem dX7_level_64 : decode cX7_level 64 = .ok (.invokevirtual 311, 3) := dk_182 1 55 (dk_at dksX7_level_2 18 rfl rfl)
theorem dX7_level_67 : decode cX7_level 67 = .ok (.goto 29, 3) := dk_167 0 29 (dk_at dksX7_level_2 21 rfl rfl)
theorem dX7_level_70 : decode cX7_level 70 = .ok (.iload_n 2, 1) := dk_28 (dk_at dksX7_level_3 0 rfl rfl)
theorem dX7_level_71 : decode cX7_level 71 = .ok (.iconst 3, 1) := dk_6 (dk_at dksX7_level_3 1 rfl rfl)
theorem dX7_level_72 : decode cX7_level 72 = .ok (.if_icmp .ne 11, 3) := dk_160 0 11 (dk_at dksX7_level_3 2 rfl rfl)
theorem dX7_level_75 : decode cX7_level 75 = .ok (.aload_n 0, 1) := dk_42 (dk_at dksX7_level_3 5 rfl rfl)
theorem dX7_level_76 : decode cX7_level 76 = .ok (.iload_n 1, 1) := dk_27 (dk_at dksX7_level_3 6 rfl rfl)
theorem dX7_level_77 : decode cX7_level 77 = .ok (.invokevirtual 314, 3) := dk_182 1 58 (dk_at dksX7_level_3 7 rfl rfl)
theorem dX7_level_80 : decode cX7_level 80 = .ok (.goto 16, 3) := dk_167 0 16 (dk_at dksX7_level_3 10 rfl rfl)
theorem dX7_level_83 : decode cX7_level 83 = .ok (.aload_n 0, 1) := dk_42 (dk_at dksX7_level_3 13 rfl rfl)
theorem dX7_level_84 : decode cX7_level 84 = .ok (.iload_n 1, 1) := dk_27 (dk_at dksX7_level_3 14 rfl rfl)
theorem dX7_level_85 : decode cX7_level 85 = .ok (.invokevirtual 320, 3) := dk_182 1 64 (dk_at dksX7_level_3 15 rfl rfl)
theorem dX7_level_88 : decode cX7_level 88 = .ok (.ifCond .eq 7, 3) := dk_153 0 7 (dk_at dksX7_level_3 18 rfl rfl)
theorem dX7_level_91 : decode cX7_level 91 = .ok (.iconst 1, 1) := dk_4 (dk_at dksX7_level_3 21 rfl rfl)
theorem dX7_level_92 : decode cX7_level 92 = .ok (.goto 4, 3) := dk_167 0 4 (dk_at dksX7_level_4 0 rfl rfl)
theorem dX7_level_95 : decode cX7_level 95 = .ok (.iconst 0, 1) := dk_3 (dk_at dksX7_level_4 3 rfl rfl)
theorem dX7_level_96 : decode cX7_level 96 = .ok (.ireturn, 1) := dk_172 (dk_at dksX7_level_4 4 rfl rfl)
abbrev cX7_isLevel : ByteArray := prog_20_method_8_code
def yX7_isLevel : MethodName := ⟨RX7, "isLevel", "(I)Z"⟩
def dkwX7_isLevel_0 : List UInt8 := [27, 133, 9, 42, 180, 0, 150, 4, 100, 133, 184, 0, 146, 172]
abbrev dktX7_isLevel_0 : List UInt8 := dkwX7_isLevel_0 ++ []
theorem dksX7_isLevel_0 : cX7_isLevel.data.toList.drop 0 = dktX7_isLevel_0 := by decide +kernel
theorem dX7_isLevel_0 : decode cX7_isLevel 0 = .ok (.iload_n 1, 1) := dk_27 (dk_at dksX7_isLevel_0 0 rfl rfl)
theorem dX7_isLevel_1 : decode cX7_isLevel 1 = .ok (.i2l, 1) := dk_133 (dk_at dksX7_isLevel_0 1 rfl rfl)
theorem dX7_isLevel_2 : decode cX7_isLevel 2 = .ok (.lconst 0, 1) := dk_9 (dk_at dksX7_isLevel_0 2 rfl rfl)
theorem dX7_isLevel_3 : decode cX7_isLevel 3 = .ok (.aload_n 0, 1) := dk_42 (dk_at dksX7_isLevel_0 3 rfl rfl)
theorem dX7_isLevel_4 : decode cX7_isLevel 4 = .ok (.getfield 150, 3) := dk_180 0 150 (dk_at dksX7_isLevel_0 4 rfl rfl)
theorem dX7_isLevel_7 : decode cX7_isLevel 7 = .ok (.iconst 1, 1) := dk_4 (dk_at dksX7_isLevel_0 7 rfl rfl)
theorem dX7_isLevel_8 : decode cX7_isLevel 8 = .ok (.isub, 1) := dk_100 (dk_at dksX7_isLevel_0 8 rfl rfl)
theorem dX7_isLevel_9 : decode cX7_isLevel 9 = .ok (.i2l, 1) := dk_133 (dk_at dksX7_isLevel_0 9 rfl rfl)
theorem dX7_isLevel_10 : decode cX7_isLevel 10 = .ok (.invokestatic 146, 3) := dk_184 0 146 (dk_at dksX7_isLevel_0 10 rfl rfl)
theorem dX7_isLevel_13 : decode cX7_isLevel 13 = .ok (.ireturn, 1) := dk_172 (dk_at dksX7_isLevel_0 13 rfl rfl)
abbrev cX7_put : ByteArray := prog_20_method_56_code
def yX7_put : MethodName := ⟨RX7, "put", "(II)I"⟩
def dkwX7_put_4 : List UInt8 := [181, 0, 150, 42, 180, 0, 150, 172]
abbrev dktX7_put_4 : List UInt8 := dkwX7_put_4 ++ []
def dkwX7_put_3 : List UInt8 := [100, 46, 79, 132, 3, 255, 167, 255, 234, 42, 180, 0, 70, 28, 27, 79, 42, 89, 180, 0, 150, 4, 96]
abbrev dktX7_put_3 : List UInt8 := dkwX7_put_3 ++ dktX7_put_4
def dkwX7_put_2 : List UInt8 := [182, 1, 98, 42, 180, 0, 150, 62, 29, 28, 164, 0, 23, 42, 180, 0, 70, 29, 42, 180, 0, 70, 29, 4]
abbrev dktX7_put_2 : List UInt8 := dkwX7_put_2 ++ dktX7_put_3
def dkwX7_put_1 : List UInt8 := [2, 160, 0, 15, 28, 155, 0, 11, 28, 42, 180, 0, 150, 164, 0, 9, 42, 4, 182, 1, 95, 172, 42]
abbrev dktX7_put_1 : List UInt8 := dkwX7_put_1 ++ dktX7_put_2
def dkwX7_put_0 : List UInt8 := [42, 3, 181, 0, 143, 42, 27, 182, 1, 77, 154, 0, 9, 42, 4, 182, 1, 13, 172, 42, 27, 182, 1, 80]
abbrev dktX7_put_0 : List UInt8 := dkwX7_put_0 ++ dktX7_put_1
theorem dksX7_put_0 : cX7_put.data.toList.drop 0 = dktX7_put_0 := by decide +kernel
theorem dksX7_put_1 : cX7_put.data.toList.drop 24 = dktX7_put_1 := dk_seg dksX7_put_0 24 rfl rfl
theorem dksX7_put_2 : cX7_put.data.toList.drop 47 = dktX7_put_2 := dk_seg dksX7_put_1 23 rfl rfl
theorem dksX7_put_3 : cX7_put.data.toList.drop 71 = dktX7_put_3 := dk_seg dksX7_put_2 24 rfl rfl
theorem dksX7_put_4 : cX7_put.data.toList.drop 94 = dktX7_put_4 := dk_seg dksX7_put_3 23 rfl rfl
theorem dX7_put_0 : decode cX7_put 0 = .ok (.aload_n 0, 1) := dk_42 (dk_at dksX7_put_0 0 rfl rfl)
theorem dX7_put_1 : decode cX7_put 1 = .ok (.iconst 0, 1) := dk_3 (dk_at dksX7_put_0 1 rfl rfl)
theorem dX7_put_2 : decode cX7_put 2 = .ok (.putfield 143, 3) := dk_181 0 143 (dk_at dksX7_put_0 2 rfl rfl)
theorem dX7_put_5 : decode cX7_put 5 = .ok (.aload_n 0, 1) := dk_42 (dk_at dksX7_put_0 5 rfl rfl)
theorem dX7_put_6 : decode cX7_put 6 = .ok (.iload_n 1, 1) := dk_27 (dk_at dksX7_put_0 6 rfl rfl)
theorem dX7_put_7 : decode cX7_put 7 = .ok (.invokevirtual 333, 3) := dk_182 1 77 (dk_at dksX7_put_0 7 rfl rfl)
theorem dX7_put_10 : decode cX7_put 10 = .ok (.ifCond .ne 9, 3) := dk_154 0 9 (dk_at dksX7_put_0 10 rfl rfl)
theorem dX7_put_13 : decode cX7_put 13 = .ok (.aload_n 0, 1) := dk_42 (dk_at dksX7_put_0 13 rfl rfl)
theorem dX7_put_14 : decode cX7_put 14 = .ok (.iconst 1, 1) := dk_4 (dk_at dksX7_put_0 14 rfl rfl)
theorem dX7_put_15 : decode cX7_put 15 = .ok (.invokevirtual 269, 3) := dk_182 1 13 (dk_at dksX7_put_0 15 rfl rfl)
theorem dX7_put_18 : decode cX7_put 18 = .ok (.ireturn, 1) := dk_172 (dk_at dksX7_put_0 18 rfl rfl)
theorem dX7_put_19 : decode cX7_put 19 = .ok (.aload_n 0, 1) := dk_42 (dk_at dksX7_put_0 19 rfl rfl)
theorem dX7_put_20 : decode cX7_put 20 = .ok (.iload_n 1, 1) := dk_27 (dk_at dksX7_put_0 20 rfl rfl)
theorem dX7_put_21 : decode cX7_put 21 = .ok (.invokevirtual 336, 3) := dk_182 1 80 (dk_at dksX7_put_0 21 rfl rfl)
theorem dX7_put_24 : decode cX7_put 24 = .ok (.iconst (-1), 1) := dk_2 (dk_at dksX7_put_1 0 rfl rfl)
theorem dX7_put_25 : decode cX7_put 25 = .ok (.if_icmp .ne 15, 3) := dk_160 0 15 (dk_at dksX7_put_1 1 rfl rfl)
theorem dX7_put_28 : decode cX7_put 28 = .ok (.iload_n 2, 1) := dk_28 (dk_at dksX7_put_1 4 rfl rfl)
theorem dX7_put_29 : decode cX7_put 29 = .ok (.ifCond .lt 11, 3) := dk_155 0 11 (dk_at dksX7_put_1 5 rfl rfl)
theorem dX7_put_32 : decode cX7_put 32 = .ok (.iload_n 2, 1) := dk_28 (dk_at dksX7_put_1 8 rfl rfl)
theorem dX7_put_33 : decode cX7_put 33 = .ok (.aload_n 0, 1) := dk_42 (dk_at dksX7_put_1 9 rfl rfl)
theorem dX7_put_34 : decode cX7_put 34 = .ok (.getfield 150, 3) := dk_180 0 150 (dk_at dksX7_put_1 10 rfl rfl)
theorem dX7_put_37 : decode cX7_put 37 = .ok (.if_icmp .le 9, 3) := dk_164 0 9 (dk_at dksX7_put_1 13 rfl rfl)
theorem dX7_put_40 : decode cX7_put 40 = .ok (.aload_n 0, 1) := dk_42 (dk_at dksX7_put_1 16 rfl rfl)
theorem dX7_put_41 : decode cX7_put 41 = .ok (.iconst 1, 1) := dk_4 (dk_at dksX7_put_1 17 rfl rfl)
theorem dX7_put_42 : decode cX7_put 42 = .ok (.invokevirtual 351, 3) := dk_182 1 95 (dk_at dksX7_put_1 18 rfl rfl)
theorem dX7_put_45 : decode cX7_put 45 = .ok (.ireturn, 1) := dk_172 (dk_at dksX7_put_1 21 rfl rfl)
theorem dX7_put_46 : decode cX7_put 46 = .ok (.aload_n 0, 1) := dk_42 (dk_at dksX7_put_1 22 rfl rfl)
theorem dX7_put_47 : decode cX7_put 47 = .ok (.invokevirtual 354, 3) := dk_182 1 98 (dk_at dksX7_put_2 0 rfl rfl)
theorem dX7_put_50 : decode cX7_put 50 = .ok (.aload_n 0, 1) := dk_42 (dk_at dksX7_put_2 3 rfl rfl)
theorem dX7_put_51 : decode cX7_put 51 = .ok (.getfield 150, 3) := dk_180 0 150 (dk_at dksX7_put_2 4 rfl rfl)
theorem dX7_put_54 : decode cX7_put 54 = .ok (.istore_n 3, 1) := dk_62 (dk_at dksX7_put_2 7 rfl rfl)
theorem dX7_put_55 : decode cX7_put 55 = .ok (.iload_n 3, 1) := dk_29 (dk_at dksX7_put_2 8 rfl rfl)
theorem dX7_put_56 : decode cX7_put 56 = .ok (.iload_n 2, 1) := dk_28 (dk_at dksX7_put_2 9 rfl rfl)
theorem dX7_put_57 : decode cX7_put 57 = .ok (.if_icmp .le 23, 3) := dk_164 0 23 (dk_at dksX7_put_2 10 rfl rfl)
theorem dX7_put_60 : decode cX7_put 60 = .ok (.aload_n 0, 1) := dk_42 (dk_at dksX7_put_2 13 rfl rfl)
theorem dX7_put_61 : decode cX7_put 61 = .ok (.getfield 70, 3) := dk_180 0 70 (dk_at dksX7_put_2 14 rfl rfl)
theorem dX7_put_64 : decode cX7_put 64 = .ok (.iload_n 3, 1) := dk_29 (dk_at dksX7_put_2 17 rfl rfl)
theorem dX7_put_65 : decode cX7_put 65 = .ok (.aload_n 0, 1) := dk_42 (dk_at dksX7_put_2 18 rfl rfl)
theorem dX7_put_66 : decode cX7_put 66 = .ok (.getfield 70, 3) := dk_180 0 70 (dk_at dksX7_put_2 19 rfl rfl)
theorem dX7_put_69 : decode cX7_put 69 = .ok (.iload_n 3, 1) := dk_29 (dk_at dksX7_put_2 22 rfl rfl)
theorem dX7_put_70 : decode cX7_put 70 = .ok (.iconst 1, 1) := dk_4 (dk_at dksX7_put_2 23 rfl rfl)
theorem dX7_put_71 : decode cX7_put 71 = .ok (.isub, 1) := dk_100 (dk_at dksX7_put_3 0 rfl rfl)
theorem dX7_put_72 : decode cX7_put 72 = .ok (.iaload, 1) := dk_46 (dk_at dksX7_put_3 1 rfl rfl)
theorem dX7_put_73 : decode cX7_put 73 = .ok (.iastore, 1) := dk_79 (dk_at dksX7_put_3 2 rfl rfl)
theorem dX7_put_74 : decode cX7_put 74 = .ok (.iinc 3 (-1), 3) := dk_132 3 255 (dk_at dksX7_put_3 3 rfl rfl)
theorem dX7_put_77 : decode cX7_put 77 = .ok (.goto (-22), 3) := dk_167 255 234 (dk_at dksX7_put_3 6 rfl rfl)
theorem dX7_put_80 : decode cX7_put 80 = .ok (.aload_n 0, 1) := dk_42 (dk_at dksX7_put_3 9 rfl rfl)
theorem dX7_put_81 : decode cX7_put 81 = .ok (.getfield 70, 3) := dk_180 0 70 (dk_at dksX7_put_3 10 rfl rfl)
theorem dX7_put_84 : decode cX7_put 84 = .ok (.iload_n 2, 1) := dk_28 (dk_at dksX7_put_3 13 rfl rfl)
theorem dX7_put_85 : decode cX7_put 85 = .ok (.iload_n 1, 1) := dk_27 (dk_at dksX7_put_3 14 rfl rfl)
theorem dX7_put_86 : decode cX7_put 86 = .ok (.iastore, 1) := dk_79 (dk_at dksX7_put_3 15 rfl rfl)
theorem dX7_put_87 : decode cX7_put 87 = .ok (.aload_n 0, 1) := dk_42 (dk_at dksX7_put_3 16 rfl rfl)
theorem dX7_put_88 : decode cX7_put 88 = .ok (.dup, 1) := dk_89 (dk_at dksX7_put_3 17 rfl rfl)
theorem dX7_put_89 : decode cX7_put 89 = .ok (.getfield 150, 3) := dk_180 0 150 (dk_at dksX7_put_3 18 rfl rfl)
theorem dX7_put_92 : decode cX7_put 92 = .ok (.iconst 1, 1) := dk_4 (dk_at dksX7_put_3 21 rfl rfl)
theorem dX7_put_93 : decode cX7_put 93 = .ok (.iadd, 1) := dk_96 (dk_at dksX7_put_3 22 rfl rfl)
theorem dX7_put_94 : decode cX7_put 94 = .ok (.putfield 150, 3) := dk_181 0 150 (dk_at dksX7_put_4 0 rfl rfl)
theorem dX7_put_97 : decode cX7_put 97 = .ok (.aload_n 0, 1) := dk_42 (dk_at dksX7_put_4 3 rfl rfl)
theorem dX7_put_98 : decode cX7_put 98 = .ok (.getfield 150, 3) := dk_180 0 150 (dk_at dksX7_put_4 4 rfl rfl)
theorem dX7_put_101 : decode cX7_put 101 = .ok (.ireturn, 1) := dk_172 (dk_at dksX7_put_4 7 rfl rfl)
abbrev cX7_refuse : ByteArray := prog_20_method_53_code
def yX7_refuse : MethodName := ⟨RX7, "refuse", "(I)I"⟩
def dkwX7_refuse_0 : List UInt8 := [42, 180, 0, 60, 27, 92, 46, 4, 96, 79, 2, 172]
abbrev dktX7_refuse_0 : List UInt8 := dkwX7_refuse_0 ++ []
theorem dksX7_refuse_0 : cX7_refuse.data.toList.drop 0 = dktX7_refuse_0 := by decide +kernel
theorem dX7_refuse_0 : decode cX7_refuse 0 = .ok (.aload_n 0, 1) := dk_42 (dk_at dksX7_refuse_0 0 rfl rfl)
theorem dX7_refuse_1 : decode cX7_refuse 1 = .ok (.getfield 60, 3) := dk_180 0 60 (dk_at dksX7_refuse_0 1 rfl rfl)
theorem dX7_refuse_4 : decode cX7_refuse 4 = .ok (.iload_n 1, 1) := dk_27 (dk_at dksX7_refuse_0 4 rfl rfl)
theorem dX7_refuse_5 : decode cX7_refuse 5 = .ok (.dup2, 1) := dk_92 (dk_at dksX7_refuse_0 5 rfl rfl)
theorem dX7_refuse_6 : decode cX7_refuse 6 = .ok (.iaload, 1) := dk_46 (dk_at dksX7_refuse_0 6 rfl rfl)
theorem dX7_refuse_7 : decode cX7_refuse 7 = .ok (.iconst 1, 1) := dk_4 (dk_at dksX7_refuse_0 7 rfl rfl)
theorem dX7_refuse_8 : decode cX7_refuse 8 = .ok (.iadd, 1) := dk_96 (dk_at dksX7_refuse_0 8 rfl rfl)
theorem dX7_refuse_9 : decode cX7_refuse 9 = .ok (.iastore, 1) := dk_79 (dk_at dksX7_refuse_0 9 rfl rfl)
theorem dX7_refuse_10 : decode cX7_refuse 10 = .ok (.iconst (-1), 1) := dk_2 (dk_at dksX7_refuse_0 10 rfl rfl)
theorem dX7_refuse_11 : decode cX7_refuse 11 = .ok (.ireturn, 1) := dk_172 (dk_at dksX7_refuse_0 11 rfl rfl)
abbrev cX7_keep : ByteArray := prog_20_method_55_code
def yX7_keep : MethodName := ⟨RX7, "keep", "()V"⟩
def dkwX7_keep_3 : List UInt8 := [89, 180, 1, 29, 4, 96, 181, 1, 29, 177]
abbrev dktX7_keep_3 : List UInt8 := dkwX7_keep_3 ++ []
def dkwX7_keep_2 : List UInt8 := [180, 1, 29, 4, 100, 181, 1, 29, 42, 42, 180, 0, 82, 16, 43, 42, 180, 1, 29, 104, 182, 1, 91, 42]
abbrev dktX7_keep_2 : List UInt8 := dkwX7_keep_2 ++ dktX7_keep_3
def dkwX7_keep_1 : List UInt8 := [180, 0, 82, 27, 16, 43, 100, 42, 180, 0, 82, 27, 46, 79, 132, 1, 1, 167, 255, 229, 42, 89]
abbrev dktX7_keep_1 : List UInt8 := dkwX7_keep_1 ++ dktX7_keep_2
def dkwX7_keep_0 : List UInt8 := [42, 180, 1, 29, 16, 40, 160, 0, 46, 16, 43, 60, 27, 42, 180, 0, 82, 190, 162, 0, 24, 42]
abbrev dktX7_keep_0 : List UInt8 := dkwX7_keep_0 ++ dktX7_keep_1
theorem dksX7_keep_0 : cX7_keep.data.toList.drop 0 = dktX7_keep_0 := by decide +kernel
theorem dksX7_keep_1 : cX7_keep.data.toList.drop 22 = dktX7_keep_1 := dk_seg dksX7_keep_0 22 rfl rfl
theorem dksX7_keep_2 : cX7_keep.data.toList.drop 44 = dktX7_keep_2 := dk_seg dksX7_keep_1 22 rfl rfl
theorem dksX7_keep_3 : cX7_keep.data.toList.drop 68 = dktX7_keep_3 := dk_seg dksX7_keep_2 24 rfl rfl
theorem dX7_keep_0 : decode cX7_keep 0 = .ok (.aload_n 0, 1) := dk_42 (dk_at dksX7_keep_0 0 rfl rfl)
theorem dX7_keep_1 : decode cX7_keep 1 = .ok (.getfield 285, 3) := dk_180 1 29 (dk_at dksX7_keep_0 1 rfl rfl)
theorem dX7_keep_4 : decode cX7_keep 4 = .ok (.bipush 40, 2) := dk_16 40 (dk_at dksX7_keep_0 4 rfl rfl)
theorem dX7_keep_6 : decode cX7_keep 6 = .ok (.if_icmp .ne 46, 3) := dk_160 0 46 (dk_at dksX7_keep_0 6 rfl rfl)
theorem dX7_keep_9 : decode cX7_keep 9 = .ok (.bipush 43, 2) := dk_16 43 (dk_at dksX7_keep_0 9 rfl rfl)
theorem dX7_keep_11 : decode cX7_keep 11 = .ok (.istore_n 1, 1) := dk_60 (dk_at dksX7_keep_0 11 rfl rfl)
theorem dX7_keep_12 : decode cX7_keep 12 = .ok (.iload_n 1, 1) := dk_27 (dk_at dksX7_keep_0 12 rfl rfl)
theorem dX7_keep_13 : decode cX7_keep 13 = .ok (.aload_n 0, 1) := dk_42 (dk_at dksX7_keep_0 13 rfl rfl)
theorem dX7_keep_14 : decode cX7_keep 14 = .ok (.getfield 82, 3) := dk_180 0 82 (dk_at dksX7_keep_0 14 rfl rfl)
theorem dX7_keep_17 : decode cX7_keep 17 = .ok (.arraylength, 1) := dk_190 (dk_at dksX7_keep_0 17 rfl rfl)
theorem dX7_keep_18 : decode cX7_keep 18 = .ok (.if_icmp .ge 24, 3) := dk_162 0 24 (dk_at dksX7_keep_0 18 rfl rfl)
theorem dX7_keep_21 : decode cX7_keep 21 = .ok (.aload_n 0, 1) := dk_42 (dk_at dksX7_keep_0 21 rfl rfl)
theorem dX7_keep_22 : decode cX7_keep 22 = .ok (.getfield 82, 3) := dk_180 0 82 (dk_at dksX7_keep_1 0 rfl rfl)
theorem dX7_keep_25 : decode cX7_keep 25 = .ok (.iload_n 1, 1) := dk_27 (dk_at dksX7_keep_1 3 rfl rfl)
theorem dX7_keep_26 : decode cX7_keep 26 = .ok (.bipush 43, 2) := dk_16 43 (dk_at dksX7_keep_1 4 rfl rfl)
theorem dX7_keep_28 : decode cX7_keep 28 = .ok (.isub, 1) := dk_100 (dk_at dksX7_keep_1 6 rfl rfl)
theorem dX7_keep_29 : decode cX7_keep 29 = .ok (.aload_n 0, 1) := dk_42 (dk_at dksX7_keep_1 7 rfl rfl)
theorem dX7_keep_30 : decode cX7_keep 30 = .ok (.getfield 82, 3) := dk_180 0 82 (dk_at dksX7_keep_1 8 rfl rfl)
theorem dX7_keep_33 : decode cX7_keep 33 = .ok (.iload_n 1, 1) := dk_27 (dk_at dksX7_keep_1 11 rfl rfl)
theorem dX7_keep_34 : decode cX7_keep 34 = .ok (.iaload, 1) := dk_46 (dk_at dksX7_keep_1 12 rfl rfl)
theorem dX7_keep_35 : decode cX7_keep 35 = .ok (.iastore, 1) := dk_79 (dk_at dksX7_keep_1 13 rfl rfl)
theorem dX7_keep_36 : decode cX7_keep 36 = .ok (.iinc 1 1, 3) := dk_132 1 1 (dk_at dksX7_keep_1 14 rfl rfl)
theorem dX7_keep_39 : decode cX7_keep 39 = .ok (.goto (-27), 3) := dk_167 255 229 (dk_at dksX7_keep_1 17 rfl rfl)
theorem dX7_keep_42 : decode cX7_keep 42 = .ok (.aload_n 0, 1) := dk_42 (dk_at dksX7_keep_1 20 rfl rfl)
theorem dX7_keep_43 : decode cX7_keep 43 = .ok (.dup, 1) := dk_89 (dk_at dksX7_keep_1 21 rfl rfl)
theorem dX7_keep_44 : decode cX7_keep 44 = .ok (.getfield 285, 3) := dk_180 1 29 (dk_at dksX7_keep_2 0 rfl rfl)
theorem dX7_keep_47 : decode cX7_keep 47 = .ok (.iconst 1, 1) := dk_4 (dk_at dksX7_keep_2 3 rfl rfl)
theorem dX7_keep_48 : decode cX7_keep 48 = .ok (.isub, 1) := dk_100 (dk_at dksX7_keep_2 4 rfl rfl)
theorem dX7_keep_49 : decode cX7_keep 49 = .ok (.putfield 285, 3) := dk_181 1 29 (dk_at dksX7_keep_2 5 rfl rfl)
theorem dX7_keep_52 : decode cX7_keep 52 = .ok (.aload_n 0, 1) := dk_42 (dk_at dksX7_keep_2 8 rfl rfl)
theorem dX7_keep_53 : decode cX7_keep 53 = .ok (.aload_n 0, 1) := dk_42 (dk_at dksX7_keep_2 9 rfl rfl)
theorem dX7_keep_54 : decode cX7_keep 54 = .ok (.getfield 82, 3) := dk_180 0 82 (dk_at dksX7_keep_2 10 rfl rfl)
theorem dX7_keep_57 : decode cX7_keep 57 = .ok (.bipush 43, 2) := dk_16 43 (dk_at dksX7_keep_2 13 rfl rfl)
theorem dX7_keep_59 : decode cX7_keep 59 = .ok (.aload_n 0, 1) := dk_42 (dk_at dksX7_keep_2 15 rfl rfl)
theorem dX7_keep_60 : decode cX7_keep 60 = .ok (.getfield 285, 3) := dk_180 1 29 (dk_at dksX7_keep_2 16 rfl rfl)
theorem dX7_keep_63 : decode cX7_keep 63 = .ok (.imul, 1) := dk_104 (dk_at dksX7_keep_2 19 rfl rfl)
theorem dX7_keep_64 : decode cX7_keep 64 = .ok (.invokevirtual 347, 3) := dk_182 1 91 (dk_at dksX7_keep_2 20 rfl rfl)
theorem dX7_keep_67 : decode cX7_keep 67 = .ok (.aload_n 0, 1) := dk_42 (dk_at dksX7_keep_2 23 rfl rfl)
theorem dX7_keep_68 : decode cX7_keep 68 = .ok (.dup, 1) := dk_89 (dk_at dksX7_keep_3 0 rfl rfl)
theorem dX7_keep_69 : decode cX7_keep 69 = .ok (.getfield 285, 3) := dk_180 1 29 (dk_at dksX7_keep_3 1 rfl rfl)
theorem dX7_keep_72 : decode cX7_keep 72 = .ok (.iconst 1, 1) := dk_4 (dk_at dksX7_keep_3 4 rfl rfl)
theorem dX7_keep_73 : decode cX7_keep 73 = .ok (.iadd, 1) := dk_96 (dk_at dksX7_keep_3 5 rfl rfl)
theorem dX7_keep_74 : decode cX7_keep 74 = .ok (.putfield 285, 3) := dk_181 1 29 (dk_at dksX7_keep_3 6 rfl rfl)
theorem dX7_keep_77 : decode cX7_keep 77 = .ok (.return_, 1) := dk_177 (dk_at dksX7_keep_3 9 rfl rfl)
abbrev cX7_pack : ByteArray := prog_20_method_34_code
def yX7_pack : MethodName := ⟨RX7, "pack", "([II)V"⟩
def dkwX7_pack_4 : List UInt8 := [132, 3, 1, 167, 255, 186, 177]
abbrev dktX7_pack_4 : List UInt8 := dkwX7_pack_4 ++ []
def dkwX7_pack_3 : List UInt8 := [180, 0, 76, 29, 46, 79, 43, 28, 6, 96, 16, 30, 96, 29, 96, 42, 180, 0, 79, 29, 46, 79]
abbrev dktX7_pack_3 : List UInt8 := dkwX7_pack_3 ++ dktX7_pack_4
def dkwX7_pack_2 : List UInt8 := [6, 96, 16, 10, 96, 29, 96, 42, 180, 0, 73, 29, 46, 79, 43, 28, 6, 96, 16, 20, 96, 29, 96, 42]
abbrev dktX7_pack_2 : List UInt8 := dkwX7_pack_2 ++ dktX7_pack_3
def dkwX7_pack_1 : List UInt8 := [79, 3, 62, 29, 16, 10, 162, 0, 70, 43, 28, 6, 96, 29, 96, 42, 180, 0, 70, 29, 46, 79, 43, 28]
abbrev dktX7_pack_1 : List UInt8 := dkwX7_pack_1 ++ dktX7_pack_2
def dkwX7_pack_0 : List UInt8 := [43, 28, 42, 180, 0, 150, 79, 43, 28, 4, 96, 42, 180, 1, 26, 79, 43, 28, 5, 96, 42, 180, 0, 85]
abbrev dktX7_pack_0 : List UInt8 := dkwX7_pack_0 ++ dktX7_pack_1
theorem dksX7_pack_0 : cX7_pack.data.toList.drop 0 = dktX7_pack_0 := by decide +kernel
theorem dksX7_pack_1 : cX7_pack.data.toList.drop 24 = dktX7_pack_1 := dk_seg dksX7_pack_0 24 rfl rfl
theorem dksX7_pack_2 : cX7_pack.data.toList.drop 48 = dktX7_pack_2 := dk_seg dksX7_pack_1 24 rfl rfl
theorem dksX7_pack_3 : cX7_pack.data.toList.drop 72 = dktX7_pack_3 := dk_seg dksX7_pack_2 24 rfl rfl
theorem dksX7_pack_4 : cX7_pack.data.toList.drop 94 = dktX7_pack_4 := dk_seg dksX7_pack_3 22 rfl rfl
theorem dX7_pack_0 : decode cX7_pack 0 = .ok (.aload_n 1, 1) := dk_43 (dk_at dksX7_pack_0 0 rfl rfl)
theorem dX7_pack_1 : decode cX7_pack 1 = .ok (.iload_n 2, 1) := dk_28 (dk_at dksX7_pack_0 1 rfl rfl)
theorem dX7_pack_2 : decode cX7_pack 2 = .ok (.aload_n 0, 1) := dk_42 (dk_at dksX7_pack_0 2 rfl rfl)
theorem dX7_pack_3 : decode cX7_pack 3 = .ok (.getfield 150, 3) := dk_180 0 150 (dk_at dksX7_pack_0 3 rfl rfl)
theorem dX7_pack_6 : decode cX7_pack 6 = .ok (.iastore, 1) := dk_79 (dk_at dksX7_pack_0 6 rfl rfl)
theorem dX7_pack_7 : decode cX7_pack 7 = .ok (.aload_n 1, 1) := dk_43 (dk_at dksX7_pack_0 7 rfl rfl)
theorem dX7_pack_8 : decode cX7_pack 8 = .ok (.iload_n 2, 1) := dk_28 (dk_at dksX7_pack_0 8 rfl rfl)
theorem dX7_pack_9 : decode cX7_pack 9 = .ok (.iconst 1, 1) := dk_4 (dk_at dksX7_pack_0 9 rfl rfl)
theorem dX7_pack_10 : decode cX7_pack 10 = .ok (.iadd, 1) := dk_96 (dk_at dksX7_pack_0 10 rfl rfl)
theorem dX7_pack_11 : decode cX7_pack 11 = .ok (.aload_n 0, 1) := dk_42 (dk_at dksX7_pack_0 11 rfl rfl)
theorem dX7_pack_12 : decode cX7_pack 12 = .ok (.getfield 282, 3) := dk_180 1 26 (dk_at dksX7_pack_0 12 rfl rfl)
theorem dX7_pack_15 : decode cX7_pack 15 = .ok (.iastore, 1) := dk_79 (dk_at dksX7_pack_0 15 rfl rfl)
theorem dX7_pack_16 : decode cX7_pack 16 = .ok (.aload_n 1, 1) := dk_43 (dk_at dksX7_pack_0 16 rfl rfl)
theorem dX7_pack_17 : decode cX7_pack 17 = .ok (.iload_n 2, 1) := dk_28 (dk_at dksX7_pack_0 17 rfl rfl)
theorem dX7_pack_18 : decode cX7_pack 18 = .ok (.iconst 2, 1) := dk_5 (dk_at dksX7_pack_0 18 rfl rfl)
theorem dX7_pack_19 : decode cX7_pack 19 = .ok (.iadd, 1) := dk_96 (dk_at dksX7_pack_0 19 rfl rfl)
theorem dX7_pack_20 : decode cX7_pack 20 = .ok (.aload_n 0, 1) := dk_42 (dk_at dksX7_pack_0 20 rfl rfl)
theorem dX7_pack_21 : decode cX7_pack 21 = .ok (.getfield 85, 3) := dk_180 0 85 (dk_at dksX7_pack_0 21 rfl rfl)
theorem dX7_pack_24 : decode cX7_pack 24 = .ok (.iastore, 1) := dk_79 (dk_at dksX7_pack_1 0 rfl rfl)
theorem dX7_pack_25 : decode cX7_pack 25 = .ok (.iconst 0, 1) := dk_3 (dk_at dksX7_pack_1 1 rfl rfl)
theorem dX7_pack_26 : decode cX7_pack 26 = .ok (.istore_n 3, 1) := dk_62 (dk_at dksX7_pack_1 2 rfl rfl)
theorem dX7_pack_27 : decode cX7_pack 27 = .ok (.iload_n 3, 1) := dk_29 (dk_at dksX7_pack_1 3 rfl rfl)
theorem dX7_pack_28 : decode cX7_pack 28 = .ok (.bipush 10, 2) := dk_16 10 (dk_at dksX7_pack_1 4 rfl rfl)
theorem dX7_pack_30 : decode cX7_pack 30 = .ok (.if_icmp .ge 70, 3) := dk_162 0 70 (dk_at dksX7_pack_1 6 rfl rfl)
theorem dX7_pack_33 : decode cX7_pack 33 = .ok (.aload_n 1, 1) := dk_43 (dk_at dksX7_pack_1 9 rfl rfl)
theorem dX7_pack_34 : decode cX7_pack 34 = .ok (.iload_n 2, 1) := dk_28 (dk_at dksX7_pack_1 10 rfl rfl)
theorem dX7_pack_35 : decode cX7_pack 35 = .ok (.iconst 3, 1) := dk_6 (dk_at dksX7_pack_1 11 rfl rfl)
theorem dX7_pack_36 : decode cX7_pack 36 = .ok (.iadd, 1) := dk_96 (dk_at dksX7_pack_1 12 rfl rfl)
theorem dX7_pack_37 : decode cX7_pack 37 = .ok (.iload_n 3, 1) := dk_29 (dk_at dksX7_pack_1 13 rfl rfl)
theorem dX7_pack_38 : decode cX7_pack 38 = .ok (.iadd, 1) := dk_96 (dk_at dksX7_pack_1 14 rfl rfl)
theorem dX7_pack_39 : decode cX7_pack 39 = .ok (.aload_n 0, 1) := dk_42 (dk_at dksX7_pack_1 15 rfl rfl)
theorem dX7_pack_40 : decode cX7_pack 40 = .ok (.getfield 70, 3) := dk_180 0 70 (dk_at dksX7_pack_1 16 rfl rfl)
theorem dX7_pack_43 : decode cX7_pack 43 = .ok (.iload_n 3, 1) := dk_29 (dk_at dksX7_pack_1 19 rfl rfl)
theorem dX7_pack_44 : decode cX7_pack 44 = .ok (.iaload, 1) := dk_46 (dk_at dksX7_pack_1 20 rfl rfl)
theorem dX7_pack_45 : decode cX7_pack 45 = .ok (.iastore, 1) := dk_79 (dk_at dksX7_pack_1 21 rfl rfl)
theorem dX7_pack_46 : decode cX7_pack 46 = .ok (.aload_n 1, 1) := dk_43 (dk_at dksX7_pack_1 22 rfl rfl)
theorem dX7_pack_47 : decode cX7_pack 47 = .ok (.iload_n 2, 1) := dk_28 (dk_at dksX7_pack_1 23 rfl rfl)
theorem dX7_pack_48 : decode cX7_pack 48 = .ok (.iconst 3, 1) := dk_6 (dk_at dksX7_pack_2 0 rfl rfl)
theorem dX7_pack_49 : decode cX7_pack 49 = .ok (.iadd, 1) := dk_96 (dk_at dksX7_pack_2 1 rfl rfl)
theorem dX7_pack_50 : decode cX7_pack 50 = .ok (.bipush 10, 2) := dk_16 10 (dk_at dksX7_pack_2 2 rfl rfl)
theorem dX7_pack_52 : decode cX7_pack 52 = .ok (.iadd, 1) := dk_96 (dk_at dksX7_pack_2 4 rfl rfl)
theorem dX7_pack_53 : decode cX7_pack 53 = .ok (.iload_n 3, 1) := dk_29 (dk_at dksX7_pack_2 5 rfl rfl)
theorem dX7_pack_54 : decode cX7_pack 54 = .ok (.iadd, 1) := dk_96 (dk_at dksX7_pack_2 6 rfl rfl)
theorem dX7_pack_55 : decode cX7_pack 55 = .ok (.aload_n 0, 1) := dk_42 (dk_at dksX7_pack_2 7 rfl rfl)
theorem dX7_pack_56 : decode cX7_pack 56 = .ok (.getfield 73, 3) := dk_180 0 73 (dk_at dksX7_pack_2 8 rfl rfl)
theorem dX7_pack_59 : decode cX7_pack 59 = .ok (.iload_n 3, 1) := dk_29 (dk_at dksX7_pack_2 11 rfl rfl)
theorem dX7_pack_60 : decode cX7_pack 60 = .ok (.iaload, 1) := dk_46 (dk_at dksX7_pack_2 12 rfl rfl)
theorem dX7_pack_61 : decode cX7_pack 61 = .ok (.iastore, 1) := dk_79 (dk_at dksX7_pack_2 13 rfl rfl)
theorem dX7_pack_62 : decode cX7_pack 62 = .ok (.aload_n 1, 1) := dk_43 (dk_at dksX7_pack_2 14 rfl rfl)
theorem dX7_pack_63 : decode cX7_pack 63 = .ok (.iload_n 2, 1) := dk_28 (dk_at dksX7_pack_2 15 rfl rfl)
theorem dX7_pack_64 : decode cX7_pack 64 = .ok (.iconst 3, 1) := dk_6 (dk_at dksX7_pack_2 16 rfl rfl)
theorem dX7_pack_65 : decode cX7_pack 65 = .ok (.iadd, 1) := dk_96 (dk_at dksX7_pack_2 17 rfl rfl)
theorem dX7_pack_66 : decode cX7_pack 66 = .ok (.bipush 20, 2) := dk_16 20 (dk_at dksX7_pack_2 18 rfl rfl)
theorem dX7_pack_68 : decode cX7_pack 68 = .ok (.iadd, 1) := dk_96 (dk_at dksX7_pack_2 20 rfl rfl)
theorem dX7_pack_69 : decode cX7_pack 69 = .ok (.iload_n 3, 1) := dk_29 (dk_at dksX7_pack_2 21 rfl rfl)
theorem dX7_pack_70 : decode cX7_pack 70 = .ok (.iadd, 1) := dk_96 (dk_at dksX7_pack_2 22 rfl rfl)
theorem dX7_pack_71 : decode cX7_pack 71 = .ok (.aload_n 0, 1) := dk_42 (dk_at dksX7_pack_2 23 rfl rfl)
theorem dX7_pack_72 : decode cX7_pack 72 = .ok (.getfield 76, 3) := dk_180 0 76 (dk_at dksX7_pack_3 0 rfl rfl)
theorem dX7_pack_75 : decode cX7_pack 75 = .ok (.iload_n 3, 1) := dk_29 (dk_at dksX7_pack_3 3 rfl rfl)
theorem dX7_pack_76 : decode cX7_pack 76 = .ok (.iaload, 1) := dk_46 (dk_at dksX7_pack_3 4 rfl rfl)
theorem dX7_pack_77 : decode cX7_pack 77 = .ok (.iastore, 1) := dk_79 (dk_at dksX7_pack_3 5 rfl rfl)
theorem dX7_pack_78 : decode cX7_pack 78 = .ok (.aload_n 1, 1) := dk_43 (dk_at dksX7_pack_3 6 rfl rfl)
theorem dX7_pack_79 : decode cX7_pack 79 = .ok (.iload_n 2, 1) := dk_28 (dk_at dksX7_pack_3 7 rfl rfl)
theorem dX7_pack_80 : decode cX7_pack 80 = .ok (.iconst 3, 1) := dk_6 (dk_at dksX7_pack_3 8 rfl rfl)
theorem dX7_pack_81 : decode cX7_pack 81 = .ok (.iadd, 1) := dk_96 (dk_at dksX7_pack_3 9 rfl rfl)
theorem dX7_pack_82 : decode cX7_pack 82 = .ok (.bipush 30, 2) := dk_16 30 (dk_at dksX7_pack_3 10 rfl rfl)
theorem dX7_pack_84 : decode cX7_pack 84 = .ok (.iadd, 1) := dk_96 (dk_at dksX7_pack_3 12 rfl rfl)
theorem dX7_pack_85 : decode cX7_pack 85 = .ok (.iload_n 3, 1) := dk_29 (dk_at dksX7_pack_3 13 rfl rfl)
theorem dX7_pack_86 : decode cX7_pack 86 = .ok (.iadd, 1) := dk_96 (dk_at dksX7_pack_3 14 rfl rfl)
theorem dX7_pack_87 : decode cX7_pack 87 = .ok (.aload_n 0, 1) := dk_42 (dk_at dksX7_pack_3 15 rfl rfl)
theorem dX7_pack_88 : decode cX7_pack 88 = .ok (.getfield 79, 3) := dk_180 0 79 (dk_at dksX7_pack_3 16 rfl rfl)
theorem dX7_pack_91 : decode cX7_pack 91 = .ok (.iload_n 3, 1) := dk_29 (dk_at dksX7_pack_3 19 rfl rfl)
theorem dX7_pack_92 : decode cX7_pack 92 = .ok (.iaload, 1) := dk_46 (dk_at dksX7_pack_3 20 rfl rfl)
theorem dX7_pack_93 : decode cX7_pack 93 = .ok (.iastore, 1) := dk_79 (dk_at dksX7_pack_3 21 rfl rfl)
theorem dX7_pack_94 : decode cX7_pack 94 = .ok (.iinc 3 1, 3) := dk_132 3 1 (dk_at dksX7_pack_4 0 rfl rfl)
theorem dX7_pack_97 : decode cX7_pack 97 = .ok (.goto (-70), 3) := dk_167 255 186 (dk_at dksX7_pack_4 3 rfl rfl)
theorem dX7_pack_100 : decode cX7_pack 100 = .ok (.return_, 1) := dk_177 (dk_at dksX7_pack_4 6 rfl rfl)
abbrev cX7_take : ByteArray := prog_20_method_58_code
def yX7_take : MethodName := ⟨RX7, "take", "(I)I"⟩
def dkwX7_take_1 : List UInt8 := [61, 28, 2, 160, 0, 9, 42, 4, 182, 1, 95, 172, 42, 182, 1, 98, 42, 27, 182, 1, 101, 28, 172]
abbrev dktX7_take_1 : List UInt8 := dkwX7_take_1 ++ []
def dkwX7_take_0 : List UInt8 := [42, 3, 181, 0, 143, 42, 27, 182, 1, 77, 154, 0, 9, 42, 4, 182, 1, 13, 172, 42, 27, 182, 1, 80]
abbrev dktX7_take_0 : List UInt8 := dkwX7_take_0 ++ dktX7_take_1
theorem dksX7_take_0 : cX7_take.data.toList.drop 0 = dktX7_take_0 := by decide +kernel
theorem dksX7_take_1 : cX7_take.data.toList.drop 24 = dktX7_take_1 := dk_seg dksX7_take_0 24 rfl rfl
theorem dX7_take_0 : decode cX7_take 0 = .ok (.aload_n 0, 1) := dk_42 (dk_at dksX7_take_0 0 rfl rfl)
theorem dX7_take_1 : decode cX7_take 1 = .ok (.iconst 0, 1) := dk_3 (dk_at dksX7_take_0 1 rfl rfl)
theorem dX7_take_2 : decode cX7_take 2 = .ok (.putfield 143, 3) := dk_181 0 143 (dk_at dksX7_take_0 2 rfl rfl)
theorem dX7_take_5 : decode cX7_take 5 = .ok (.aload_n 0, 1) := dk_42 (dk_at dksX7_take_0 5 rfl rfl)
theorem dX7_take_6 : decode cX7_take 6 = .ok (.iload_n 1, 1) := dk_27 (dk_at dksX7_take_0 6 rfl rfl)
theorem dX7_take_7 : decode cX7_take 7 = .ok (.invokevirtual 333, 3) := dk_182 1 77 (dk_at dksX7_take_0 7 rfl rfl)
theorem dX7_take_10 : decode cX7_take 10 = .ok (.ifCond .ne 9, 3) := dk_154 0 9 (dk_at dksX7_take_0 10 rfl rfl)
theorem dX7_take_13 : decode cX7_take 13 = .ok (.aload_n 0, 1) := dk_42 (dk_at dksX7_take_0 13 rfl rfl)
theorem dX7_take_14 : decode cX7_take 14 = .ok (.iconst 1, 1) := dk_4 (dk_at dksX7_take_0 14 rfl rfl)
theorem dX7_take_15 : decode cX7_take 15 = .ok (.invokevirtual 269, 3) := dk_182 1 13 (dk_at dksX7_take_0 15 rfl rfl)
theorem dX7_take_18 : decode cX7_take 18 = .ok (.ireturn, 1) := dk_172 (dk_at dksX7_take_0 18 rfl rfl)
theorem dX7_take_19 : decode cX7_take 19 = .ok (.aload_n 0, 1) := dk_42 (dk_at dksX7_take_0 19 rfl rfl)
theorem dX7_take_20 : decode cX7_take 20 = .ok (.iload_n 1, 1) := dk_27 (dk_at dksX7_take_0 20 rfl rfl)
theorem dX7_take_21 : decode cX7_take 21 = .ok (.invokevirtual 336, 3) := dk_182 1 80 (dk_at dksX7_take_0 21 rfl rfl)
theorem dX7_take_24 : decode cX7_take 24 = .ok (.istore_n 2, 1) := dk_61 (dk_at dksX7_take_1 0 rfl rfl)
theorem dX7_take_25 : decode cX7_take 25 = .ok (.iload_n 2, 1) := dk_28 (dk_at dksX7_take_1 1 rfl rfl)
theorem dX7_take_26 : decode cX7_take 26 = .ok (.iconst (-1), 1) := dk_2 (dk_at dksX7_take_1 2 rfl rfl)
theorem dX7_take_27 : decode cX7_take 27 = .ok (.if_icmp .ne 9, 3) := dk_160 0 9 (dk_at dksX7_take_1 3 rfl rfl)
theorem dX7_take_30 : decode cX7_take 30 = .ok (.aload_n 0, 1) := dk_42 (dk_at dksX7_take_1 6 rfl rfl)
theorem dX7_take_31 : decode cX7_take 31 = .ok (.iconst 1, 1) := dk_4 (dk_at dksX7_take_1 7 rfl rfl)
theorem dX7_take_32 : decode cX7_take 32 = .ok (.invokevirtual 351, 3) := dk_182 1 95 (dk_at dksX7_take_1 8 rfl rfl)
theorem dX7_take_35 : decode cX7_take 35 = .ok (.ireturn, 1) := dk_172 (dk_at dksX7_take_1 11 rfl rfl)
theorem dX7_take_36 : decode cX7_take 36 = .ok (.aload_n 0, 1) := dk_42 (dk_at dksX7_take_1 12 rfl rfl)
theorem dX7_take_37 : decode cX7_take 37 = .ok (.invokevirtual 354, 3) := dk_182 1 98 (dk_at dksX7_take_1 13 rfl rfl)
theorem dX7_take_40 : decode cX7_take 40 = .ok (.aload_n 0, 1) := dk_42 (dk_at dksX7_take_1 16 rfl rfl)
theorem dX7_take_41 : decode cX7_take 41 = .ok (.iload_n 1, 1) := dk_27 (dk_at dksX7_take_1 17 rfl rfl)
theorem dX7_take_42 : decode cX7_take 42 = .ok (.invokevirtual 357, 3) := dk_182 1 101 (dk_at dksX7_take_1 18 rfl rfl)
theorem dX7_take_45 : decode cX7_take 45 = .ok (.iload_n 2, 1) := dk_28 (dk_at dksX7_take_1 21 rfl rfl)
theorem dX7_take_46 : decode cX7_take 46 = .ok (.ireturn, 1) := dk_172 (dk_at dksX7_take_1 22 rfl rfl)
abbrev cX7_takeOff : ByteArray := prog_20_method_57_code
def yX7_takeOff : MethodName := ⟨RX7, "takeOff", "(I)V"⟩
def dkwX7_takeOff_2 : List UInt8 := [180, 0, 73, 27, 3, 79, 177]
abbrev dktX7_takeOff_2 : List UInt8 := dkwX7_takeOff_2 ++ []
def dkwX7_takeOff_1 : List UInt8 := [162, 0, 23, 42, 180, 0, 70, 29, 42, 180, 0, 70, 29, 4, 96, 46, 79, 132, 3, 1, 167, 255, 231, 42]
abbrev dktX7_takeOff_1 : List UInt8 := dkwX7_takeOff_1 ++ dktX7_takeOff_2
def dkwX7_takeOff_0 : List UInt8 := [42, 27, 182, 1, 80, 61, 42, 89, 180, 0, 150, 4, 100, 181, 0, 150, 28, 62, 29, 42, 180, 0, 150]
abbrev dktX7_takeOff_0 : List UInt8 := dkwX7_takeOff_0 ++ dktX7_takeOff_1
theorem dksX7_takeOff_0 : cX7_takeOff.data.toList.drop 0 = dktX7_takeOff_0 := by decide +kernel
theorem dksX7_takeOff_1 : cX7_takeOff.data.toList.drop 23 = dktX7_takeOff_1 := dk_seg dksX7_takeOff_0 23 rfl rfl
theorem dksX7_takeOff_2 : cX7_takeOff.data.toList.drop 47 = dktX7_takeOff_2 := dk_seg dksX7_takeOff_1 24 rfl rfl
theorem dX7_takeOff_0 : decode cX7_takeOff 0 = .ok (.aload_n 0, 1) := dk_42 (dk_at dksX7_takeOff_0 0 rfl rfl)
theorem dX7_takeOff_1 : decode cX7_takeOff 1 = .ok (.iload_n 1, 1) := dk_27 (dk_at dksX7_takeOff_0 1 rfl rfl)
theorem dX7_takeOff_2 : decode cX7_takeOff 2 = .ok (.invokevirtual 336, 3) := dk_182 1 80 (dk_at dksX7_takeOff_0 2 rfl rfl)
theorem dX7_takeOff_5 : decode cX7_takeOff 5 = .ok (.istore_n 2, 1) := dk_61 (dk_at dksX7_takeOff_0 5 rfl rfl)
theorem dX7_takeOff_6 : decode cX7_takeOff 6 = .ok (.aload_n 0, 1) := dk_42 (dk_at dksX7_takeOff_0 6 rfl rfl)
theorem dX7_takeOff_7 : decode cX7_takeOff 7 = .ok (.dup, 1) := dk_89 (dk_at dksX7_takeOff_0 7 rfl rfl)
theorem dX7_takeOff_8 : decode cX7_takeOff 8 = .ok (.getfield 150, 3) := dk_180 0 150 (dk_at dksX7_takeOff_0 8 rfl rfl)
theorem dX7_takeOff_11 : decode cX7_takeOff 11 = .ok (.iconst 1, 1) := dk_4 (dk_at dksX7_takeOff_0 11 rfl rfl)
theorem dX7_takeOff_12 : decode cX7_takeOff 12 = .ok (.isub, 1) := dk_100 (dk_at dksX7_takeOff_0 12 rfl rfl)
theorem dX7_takeOff_13 : decode cX7_takeOff 13 = .ok (.putfield 150, 3) := dk_181 0 150 (dk_at dksX7_takeOff_0 13 rfl rfl)
theorem dX7_takeOff_16 : decode cX7_takeOff 16 = .ok (.iload_n 2, 1) := dk_28 (dk_at dksX7_takeOff_0 16 rfl rfl)
theorem dX7_takeOff_17 : decode cX7_takeOff 17 = .ok (.istore_n 3, 1) := dk_62 (dk_at dksX7_takeOff_0 17 rfl rfl)
theorem dX7_takeOff_18 : decode cX7_takeOff 18 = .ok (.iload_n 3, 1) := dk_29 (dk_at dksX7_takeOff_0 18 rfl rfl)
theorem dX7_takeOff_19 : decode cX7_takeOff 19 = .ok (.aload_n 0, 1) := dk_42 (dk_at dksX7_takeOff_0 19 rfl rfl)
theorem dX7_takeOff_20 : decode cX7_takeOff 20 = .ok (.getfield 150, 3) := dk_180 0 150 (dk_at dksX7_takeOff_0 20 rfl rfl)
theorem dX7_takeOff_23 : decode cX7_takeOff 23 = .ok (.if_icmp .ge 23, 3) := dk_162 0 23 (dk_at dksX7_takeOff_1 0 rfl rfl)
theorem dX7_takeOff_26 : decode cX7_takeOff 26 = .ok (.aload_n 0, 1) := dk_42 (dk_at dksX7_takeOff_1 3 rfl rfl)
theorem dX7_takeOff_27 : decode cX7_takeOff 27 = .ok (.getfield 70, 3) := dk_180 0 70 (dk_at dksX7_takeOff_1 4 rfl rfl)
theorem dX7_takeOff_30 : decode cX7_takeOff 30 = .ok (.iload_n 3, 1) := dk_29 (dk_at dksX7_takeOff_1 7 rfl rfl)
theorem dX7_takeOff_31 : decode cX7_takeOff 31 = .ok (.aload_n 0, 1) := dk_42 (dk_at dksX7_takeOff_1 8 rfl rfl)
theorem dX7_takeOff_32 : decode cX7_takeOff 32 = .ok (.getfield 70, 3) := dk_180 0 70 (dk_at dksX7_takeOff_1 9 rfl rfl)
theorem dX7_takeOff_35 : decode cX7_takeOff 35 = .ok (.iload_n 3, 1) := dk_29 (dk_at dksX7_takeOff_1 12 rfl rfl)
theorem dX7_takeOff_36 : decode cX7_takeOff 36 = .ok (.iconst 1, 1) := dk_4 (dk_at dksX7_takeOff_1 13 rfl rfl)
theorem dX7_takeOff_37 : decode cX7_takeOff 37 = .ok (.iadd, 1) := dk_96 (dk_at dksX7_takeOff_1 14 rfl rfl)
theorem dX7_takeOff_38 : decode cX7_takeOff 38 = .ok (.iaload, 1) := dk_46 (dk_at dksX7_takeOff_1 15 rfl rfl)
theorem dX7_takeOff_39 : decode cX7_takeOff 39 = .ok (.iastore, 1) := dk_79 (dk_at dksX7_takeOff_1 16 rfl rfl)
theorem dX7_takeOff_40 : decode cX7_takeOff 40 = .ok (.iinc 3 1, 3) := dk_132 3 1 (dk_at dksX7_takeOff_1 17 rfl rfl)
theorem dX7_takeOff_43 : decode cX7_takeOff 43 = .ok (.goto (-25), 3) := dk_167 255 231 (dk_at dksX7_takeOff_1 20 rfl rfl)
theorem dX7_takeOff_46 : decode cX7_takeOff 46 = .ok (.aload_n 0, 1) := dk_42 (dk_at dksX7_takeOff_1 23 rfl rfl)
theorem dX7_takeOff_47 : decode cX7_takeOff 47 = .ok (.getfield 73, 3) := dk_180 0 73 (dk_at dksX7_takeOff_2 0 rfl rfl)
theorem dX7_takeOff_50 : decode cX7_takeOff 50 = .ok (.iload_n 1, 1) := dk_27 (dk_at dksX7_takeOff_2 3 rfl rfl)
theorem dX7_takeOff_51 : decode cX7_takeOff 51 = .ok (.iconst 0, 1) := dk_3 (dk_at dksX7_takeOff_2 4 rfl rfl)
theorem dX7_takeOff_52 : decode cX7_takeOff 52 = .ok (.iastore, 1) := dk_79 (dk_at dksX7_takeOff_2 5 rfl rfl)
theorem dX7_takeOff_53 : decode cX7_takeOff 53 = .ok (.return_, 1) := dk_177 (dk_at dksX7_takeOff_2 6 rfl rfl)
abbrev cX7_change : ByteArray := prog_20_method_60_code
def yX7_change : MethodName := ⟨RX7, "change", "(II)Z"⟩
def dkwX7_change_2 : List UInt8 := [182, 1, 98, 42, 27, 28, 182, 1, 107, 4, 172]
abbrev dktX7_change_2 : List UInt8 := dkwX7_change_2 ++ []
def dkwX7_change_1 : List UInt8 := [182, 1, 104, 172, 27, 28, 160, 0, 15, 42, 180, 0, 60, 4, 92, 46, 4, 96, 79, 3, 172, 42]
abbrev dktX7_change_1 : List UInt8 := dkwX7_change_1 ++ dktX7_change_2
def dkwX7_change_0 : List UInt8 := [42, 3, 181, 0, 143, 42, 27, 182, 1, 86, 153, 0, 11, 42, 28, 182, 1, 86, 154, 0, 9, 42, 4]
abbrev dktX7_change_0 : List UInt8 := dkwX7_change_0 ++ dktX7_change_1
theorem dksX7_change_0 : cX7_change.data.toList.drop 0 = dktX7_change_0 := by decide +kernel
theorem dksX7_change_1 : cX7_change.data.toList.drop 23 = dktX7_change_1 := dk_seg dksX7_change_0 23 rfl rfl
theorem dksX7_change_2 : cX7_change.data.toList.drop 45 = dktX7_change_2 := dk_seg dksX7_change_1 22 rfl rfl
theorem dX7_change_0 : decode cX7_change 0 = .ok (.aload_n 0, 1) := dk_42 (dk_at dksX7_change_0 0 rfl rfl)
theorem dX7_change_1 : decode cX7_change 1 = .ok (.iconst 0, 1) := dk_3 (dk_at dksX7_change_0 1 rfl rfl)
theorem dX7_change_2 : decode cX7_change 2 = .ok (.putfield 143, 3) := dk_181 0 143 (dk_at dksX7_change_0 2 rfl rfl)
theorem dX7_change_5 : decode cX7_change 5 = .ok (.aload_n 0, 1) := dk_42 (dk_at dksX7_change_0 5 rfl rfl)
theorem dX7_change_6 : decode cX7_change 6 = .ok (.iload_n 1, 1) := dk_27 (dk_at dksX7_change_0 6 rfl rfl)
theorem dX7_change_7 : decode cX7_change 7 = .ok (.invokevirtual 342, 3) := dk_182 1 86 (dk_at dksX7_change_0 7 rfl rfl)
theorem dX7_change_10 : decode cX7_change 10 = .ok (.ifCond .eq 11, 3) := dk_153 0 11 (dk_at dksX7_change_0 10 rfl rfl)
theorem dX7_change_13 : decode cX7_change 13 = .ok (.aload_n 0, 1) := dk_42 (dk_at dksX7_change_0 13 rfl rfl)
theorem dX7_change_14 : decode cX7_change 14 = .ok (.iload_n 2, 1) := dk_28 (dk_at dksX7_change_0 14 rfl rfl)
theorem dX7_change_15 : decode cX7_change 15 = .ok (.invokevirtual 342, 3) := dk_182 1 86 (dk_at dksX7_change_0 15 rfl rfl)
theorem dX7_change_18 : decode cX7_change 18 = .ok (.ifCond .ne 9, 3) := dk_154 0 9 (dk_at dksX7_change_0 18 rfl rfl)
theorem dX7_change_21 : decode cX7_change 21 = .ok (.aload_n 0, 1) := dk_42 (dk_at dksX7_change_0 21 rfl rfl)
theorem dX7_change_22 : decode cX7_change 22 = .ok (.iconst 1, 1) := dk_4 (dk_at dksX7_change_0 22 rfl rfl)
theorem dX7_change_23 : decode cX7_change 23 = .ok (.invokevirtual 360, 3) := dk_182 1 104 (dk_at dksX7_change_1 0 rfl rfl)
theorem dX7_change_26 : decode cX7_change 26 = .ok (.ireturn, 1) := dk_172 (dk_at dksX7_change_1 3 rfl rfl)
theorem dX7_change_27 : decode cX7_change 27 = .ok (.iload_n 1, 1) := dk_27 (dk_at dksX7_change_1 4 rfl rfl)
theorem dX7_change_28 : decode cX7_change 28 = .ok (.iload_n 2, 1) := dk_28 (dk_at dksX7_change_1 5 rfl rfl)
theorem dX7_change_29 : decode cX7_change 29 = .ok (.if_icmp .ne 15, 3) := dk_160 0 15 (dk_at dksX7_change_1 6 rfl rfl)
theorem dX7_change_32 : decode cX7_change 32 = .ok (.aload_n 0, 1) := dk_42 (dk_at dksX7_change_1 9 rfl rfl)
theorem dX7_change_33 : decode cX7_change 33 = .ok (.getfield 60, 3) := dk_180 0 60 (dk_at dksX7_change_1 10 rfl rfl)
theorem dX7_change_36 : decode cX7_change 36 = .ok (.iconst 1, 1) := dk_4 (dk_at dksX7_change_1 13 rfl rfl)
theorem dX7_change_37 : decode cX7_change 37 = .ok (.dup2, 1) := dk_92 (dk_at dksX7_change_1 14 rfl rfl)
theorem dX7_change_38 : decode cX7_change 38 = .ok (.iaload, 1) := dk_46 (dk_at dksX7_change_1 15 rfl rfl)
theorem dX7_change_39 : decode cX7_change 39 = .ok (.iconst 1, 1) := dk_4 (dk_at dksX7_change_1 16 rfl rfl)
theorem dX7_change_40 : decode cX7_change 40 = .ok (.iadd, 1) := dk_96 (dk_at dksX7_change_1 17 rfl rfl)
theorem dX7_change_41 : decode cX7_change 41 = .ok (.iastore, 1) := dk_79 (dk_at dksX7_change_1 18 rfl rfl)
theorem dX7_change_42 : decode cX7_change 42 = .ok (.iconst 0, 1) := dk_3 (dk_at dksX7_change_1 19 rfl rfl)
theorem dX7_change_43 : decode cX7_change 43 = .ok (.ireturn, 1) := dk_172 (dk_at dksX7_change_1 20 rfl rfl)
theorem dX7_change_44 : decode cX7_change 44 = .ok (.aload_n 0, 1) := dk_42 (dk_at dksX7_change_1 21 rfl rfl)
theorem dX7_change_45 : decode cX7_change 45 = .ok (.invokevirtual 354, 3) := dk_182 1 98 (dk_at dksX7_change_2 0 rfl rfl)
theorem dX7_change_48 : decode cX7_change 48 = .ok (.aload_n 0, 1) := dk_42 (dk_at dksX7_change_2 3 rfl rfl)
theorem dX7_change_49 : decode cX7_change 49 = .ok (.iload_n 1, 1) := dk_27 (dk_at dksX7_change_2 4 rfl rfl)
theorem dX7_change_50 : decode cX7_change 50 = .ok (.iload_n 2, 1) := dk_28 (dk_at dksX7_change_2 5 rfl rfl)
theorem dX7_change_51 : decode cX7_change 51 = .ok (.invokevirtual 363, 3) := dk_182 1 107 (dk_at dksX7_change_2 6 rfl rfl)
theorem dX7_change_54 : decode cX7_change 54 = .ok (.iconst 1, 1) := dk_4 (dk_at dksX7_change_2 9 rfl rfl)
theorem dX7_change_55 : decode cX7_change 55 = .ok (.ireturn, 1) := dk_172 (dk_at dksX7_change_2 10 rfl rfl)
abbrev cX7_failing : ByteArray := prog_20_method_4_code
def yX7_failing : MethodName := ⟨RX7, "failing", "(I)Z"⟩
def dkwX7_failing_0 : List UInt8 := [42, 27, 181, 0, 143, 3, 172]
abbrev dktX7_failing_0 : List UInt8 := dkwX7_failing_0 ++ []
theorem dksX7_failing_0 : cX7_failing.data.toList.drop 0 = dktX7_failing_0 := by decide +kernel
theorem dX7_failing_0 : decode cX7_failing 0 = .ok (.aload_n 0, 1) := dk_42 (dk_at dksX7_failing_0 0 rfl rfl)
theorem dX7_failing_1 : decode cX7_failing 1 = .ok (.iload_n 1, 1) := dk_27 (dk_at dksX7_failing_0 1 rfl rfl)
theorem dX7_failing_2 : decode cX7_failing 2 = .ok (.putfield 143, 3) := dk_181 0 143 (dk_at dksX7_failing_0 2 rfl rfl)
theorem dX7_failing_5 : decode cX7_failing 5 = .ok (.iconst 0, 1) := dk_3 (dk_at dksX7_failing_0 5 rfl rfl)
theorem dX7_failing_6 : decode cX7_failing 6 = .ok (.ireturn, 1) := dk_172 (dk_at dksX7_failing_0 6 rfl rfl)
abbrev cX7_exchange : ByteArray := prog_20_method_59_code
def yX7_exchange : MethodName := ⟨RX7, "exchange", "(II)V"⟩
def dkwX7_exchange_1 : List UInt8 := [29, 79, 177]
abbrev dktX7_exchange_1 : List UInt8 := dkwX7_exchange_1 ++ []
def dkwX7_exchange_0 : List UInt8 := [42, 180, 0, 70, 27, 46, 62, 42, 180, 0, 70, 27, 42, 180, 0, 70, 28, 46, 79, 42, 180, 0, 70, 28]
abbrev dktX7_exchange_0 : List UInt8 := dkwX7_exchange_0 ++ dktX7_exchange_1
theorem dksX7_exchange_0 : cX7_exchange.data.toList.drop 0 = dktX7_exchange_0 := by decide +kernel
theorem dksX7_exchange_1 : cX7_exchange.data.toList.drop 24 = dktX7_exchange_1 := dk_seg dksX7_exchange_0 24 rfl rfl
theorem dX7_exchange_0 : decode cX7_exchange 0 = .ok (.aload_n 0, 1) := dk_42 (dk_at dksX7_exchange_0 0 rfl rfl)
theorem dX7_exchange_1 : decode cX7_exchange 1 = .ok (.getfield 70, 3) := dk_180 0 70 (dk_at dksX7_exchange_0 1 rfl rfl)
theorem dX7_exchange_4 : decode cX7_exchange 4 = .ok (.iload_n 1, 1) := dk_27 (dk_at dksX7_exchange_0 4 rfl rfl)
theorem dX7_exchange_5 : decode cX7_exchange 5 = .ok (.iaload, 1) := dk_46 (dk_at dksX7_exchange_0 5 rfl rfl)
theorem dX7_exchange_6 : decode cX7_exchange 6 = .ok (.istore_n 3, 1) := dk_62 (dk_at dksX7_exchange_0 6 rfl rfl)
theorem dX7_exchange_7 : decode cX7_exchange 7 = .ok (.aload_n 0, 1) := dk_42 (dk_at dksX7_exchange_0 7 rfl rfl)
theorem dX7_exchange_8 : decode cX7_exchange 8 = .ok (.getfield 70, 3) := dk_180 0 70 (dk_at dksX7_exchange_0 8 rfl rfl)
theorem dX7_exchange_11 : decode cX7_exchange 11 = .ok (.iload_n 1, 1) := dk_27 (dk_at dksX7_exchange_0 11 rfl rfl)
theorem dX7_exchange_12 : decode cX7_exchange 12 = .ok (.aload_n 0, 1) := dk_42 (dk_at dksX7_exchange_0 12 rfl rfl)
theorem dX7_exchange_13 : decode cX7_exchange 13 = .ok (.getfield 70, 3) := dk_180 0 70 (dk_at dksX7_exchange_0 13 rfl rfl)
theorem dX7_exchange_16 : decode cX7_exchange 16 = .ok (.iload_n 2, 1) := dk_28 (dk_at dksX7_exchange_0 16 rfl rfl)
theorem dX7_exchange_17 : decode cX7_exchange 17 = .ok (.iaload, 1) := dk_46 (dk_at dksX7_exchange_0 17 rfl rfl)
theorem dX7_exchange_18 : decode cX7_exchange 18 = .ok (.iastore, 1) := dk_79 (dk_at dksX7_exchange_0 18 rfl rfl)
theorem dX7_exchange_19 : decode cX7_exchange 19 = .ok (.aload_n 0, 1) := dk_42 (dk_at dksX7_exchange_0 19 rfl rfl)
theorem dX7_exchange_20 : decode cX7_exchange 20 = .ok (.getfield 70, 3) := dk_180 0 70 (dk_at dksX7_exchange_0 20 rfl rfl)
theorem dX7_exchange_23 : decode cX7_exchange 23 = .ok (.iload_n 2, 1) := dk_28 (dk_at dksX7_exchange_0 23 rfl rfl)
theorem dX7_exchange_24 : decode cX7_exchange 24 = .ok (.iload_n 3, 1) := dk_29 (dk_at dksX7_exchange_1 0 rfl rfl)
theorem dX7_exchange_25 : decode cX7_exchange 25 = .ok (.iastore, 1) := dk_79 (dk_at dksX7_exchange_1 1 rfl rfl)
theorem dX7_exchange_26 : decode cX7_exchange 26 = .ok (.return_, 1) := dk_177 (dk_at dksX7_exchange_1 2 rfl rfl)
abbrev cX7_wedge : ByteArray := prog_20_method_61_code
def yX7_wedge : MethodName := ⟨RX7, "wedge", "(II)I"⟩
def dkwX7_wedge_2 : List UInt8 := [62, 42, 180, 0, 76, 27, 28, 79, 29, 172]
abbrev dktX7_wedge_2 : List UInt8 := dkwX7_wedge_2 ++ []
def dkwX7_wedge_1 : List UInt8 := [20, 1, 113, 184, 0, 146, 154, 0, 8, 42, 182, 1, 115, 172, 42, 182, 1, 98, 42, 180, 0, 76, 27, 46]
abbrev dktX7_wedge_1 : List UInt8 := dkwX7_wedge_1 ++ dktX7_wedge_2
def dkwX7_wedge_0 : List UInt8 := [42, 3, 181, 0, 143, 42, 27, 182, 1, 77, 154, 0, 9, 42, 4, 182, 1, 13, 172, 28, 133, 20, 1, 111]
abbrev dktX7_wedge_0 : List UInt8 := dkwX7_wedge_0 ++ dktX7_wedge_1
theorem dksX7_wedge_0 : cX7_wedge.data.toList.drop 0 = dktX7_wedge_0 := by decide +kernel
theorem dksX7_wedge_1 : cX7_wedge.data.toList.drop 24 = dktX7_wedge_1 := dk_seg dksX7_wedge_0 24 rfl rfl
theorem dksX7_wedge_2 : cX7_wedge.data.toList.drop 48 = dktX7_wedge_2 := dk_seg dksX7_wedge_1 24 rfl rfl
theorem dX7_wedge_0 : decode cX7_wedge 0 = .ok (.aload_n 0, 1) := dk_42 (dk_at dksX7_wedge_0 0 rfl rfl)
theorem dX7_wedge_1 : decode cX7_wedge 1 = .ok (.iconst 0, 1) := dk_3 (dk_at dksX7_wedge_0 1 rfl rfl)
theorem dX7_wedge_2 : decode cX7_wedge 2 = .ok (.putfield 143, 3) := dk_181 0 143 (dk_at dksX7_wedge_0 2 rfl rfl)
theorem dX7_wedge_5 : decode cX7_wedge 5 = .ok (.aload_n 0, 1) := dk_42 (dk_at dksX7_wedge_0 5 rfl rfl)
theorem dX7_wedge_6 : decode cX7_wedge 6 = .ok (.iload_n 1, 1) := dk_27 (dk_at dksX7_wedge_0 6 rfl rfl)
theorem dX7_wedge_7 : decode cX7_wedge 7 = .ok (.invokevirtual 333, 3) := dk_182 1 77 (dk_at dksX7_wedge_0 7 rfl rfl)
theorem dX7_wedge_10 : decode cX7_wedge 10 = .ok (.ifCond .ne 9, 3) := dk_154 0 9 (dk_at dksX7_wedge_0 10 rfl rfl)
theorem dX7_wedge_13 : decode cX7_wedge 13 = .ok (.aload_n 0, 1) := dk_42 (dk_at dksX7_wedge_0 13 rfl rfl)
theorem dX7_wedge_14 : decode cX7_wedge 14 = .ok (.iconst 1, 1) := dk_4 (dk_at dksX7_wedge_0 14 rfl rfl)
theorem dX7_wedge_15 : decode cX7_wedge 15 = .ok (.invokevirtual 269, 3) := dk_182 1 13 (dk_at dksX7_wedge_0 15 rfl rfl)
theorem dX7_wedge_18 : decode cX7_wedge 18 = .ok (.ireturn, 1) := dk_172 (dk_at dksX7_wedge_0 18 rfl rfl)
theorem dX7_wedge_19 : decode cX7_wedge 19 = .ok (.iload_n 2, 1) := dk_28 (dk_at dksX7_wedge_0 19 rfl rfl)
theorem dX7_wedge_20 : decode cX7_wedge 20 = .ok (.i2l, 1) := dk_133 (dk_at dksX7_wedge_0 20 rfl rfl)
theorem dX7_wedge_21 : decode cX7_wedge 21 = .ok (.ldc2_w 367, 3) := dk_20 1 111 (dk_at dksX7_wedge_0 21 rfl rfl)
theorem dX7_wedge_24 : decode cX7_wedge 24 = .ok (.ldc2_w 369, 3) := dk_20 1 113 (dk_at dksX7_wedge_1 0 rfl rfl)
theorem dX7_wedge_27 : decode cX7_wedge 27 = .ok (.invokestatic 146, 3) := dk_184 0 146 (dk_at dksX7_wedge_1 3 rfl rfl)
theorem dX7_wedge_30 : decode cX7_wedge 30 = .ok (.ifCond .ne 8, 3) := dk_154 0 8 (dk_at dksX7_wedge_1 6 rfl rfl)
theorem dX7_wedge_33 : decode cX7_wedge 33 = .ok (.aload_n 0, 1) := dk_42 (dk_at dksX7_wedge_1 9 rfl rfl)
theorem dX7_wedge_34 : decode cX7_wedge 34 = .ok (.invokevirtual 371, 3) := dk_182 1 115 (dk_at dksX7_wedge_1 10 rfl rfl)
theorem dX7_wedge_37 : decode cX7_wedge 37 = .ok (.ireturn, 1) := dk_172 (dk_at dksX7_wedge_1 13 rfl rfl)
theorem dX7_wedge_38 : decode cX7_wedge 38 = .ok (.aload_n 0, 1) := dk_42 (dk_at dksX7_wedge_1 14 rfl rfl)
theorem dX7_wedge_39 : decode cX7_wedge 39 = .ok (.invokevirtual 354, 3) := dk_182 1 98 (dk_at dksX7_wedge_1 15 rfl rfl)
theorem dX7_wedge_42 : decode cX7_wedge 42 = .ok (.aload_n 0, 1) := dk_42 (dk_at dksX7_wedge_1 18 rfl rfl)
theorem dX7_wedge_43 : decode cX7_wedge 43 = .ok (.getfield 76, 3) := dk_180 0 76 (dk_at dksX7_wedge_1 19 rfl rfl)
theorem dX7_wedge_46 : decode cX7_wedge 46 = .ok (.iload_n 1, 1) := dk_27 (dk_at dksX7_wedge_1 22 rfl rfl)
theorem dX7_wedge_47 : decode cX7_wedge 47 = .ok (.iaload, 1) := dk_46 (dk_at dksX7_wedge_1 23 rfl rfl)
theorem dX7_wedge_48 : decode cX7_wedge 48 = .ok (.istore_n 3, 1) := dk_62 (dk_at dksX7_wedge_2 0 rfl rfl)
theorem dX7_wedge_49 : decode cX7_wedge 49 = .ok (.aload_n 0, 1) := dk_42 (dk_at dksX7_wedge_2 1 rfl rfl)
theorem dX7_wedge_50 : decode cX7_wedge 50 = .ok (.getfield 76, 3) := dk_180 0 76 (dk_at dksX7_wedge_2 2 rfl rfl)
theorem dX7_wedge_53 : decode cX7_wedge 53 = .ok (.iload_n 1, 1) := dk_27 (dk_at dksX7_wedge_2 5 rfl rfl)
theorem dX7_wedge_54 : decode cX7_wedge 54 = .ok (.iload_n 2, 1) := dk_28 (dk_at dksX7_wedge_2 6 rfl rfl)
theorem dX7_wedge_55 : decode cX7_wedge 55 = .ok (.iastore, 1) := dk_79 (dk_at dksX7_wedge_2 7 rfl rfl)
theorem dX7_wedge_56 : decode cX7_wedge 56 = .ok (.iload_n 3, 1) := dk_29 (dk_at dksX7_wedge_2 8 rfl rfl)
theorem dX7_wedge_57 : decode cX7_wedge 57 = .ok (.ireturn, 1) := dk_172 (dk_at dksX7_wedge_2 9 rfl rfl)
abbrev cX7_refuseFar : ByteArray := prog_20_method_54_code
def yX7_refuseFar : MethodName := ⟨RX7, "refuseFar", "()I"⟩
def dkwX7_refuseFar_0 : List UInt8 := [42, 180, 0, 60, 4, 92, 46, 4, 96, 79, 16, 157, 172]
abbrev dktX7_refuseFar_0 : List UInt8 := dkwX7_refuseFar_0 ++ []
theorem dksX7_refuseFar_0 : cX7_refuseFar.data.toList.drop 0 = dktX7_refuseFar_0 := by decide +kernel
theorem dX7_refuseFar_0 : decode cX7_refuseFar 0 = .ok (.aload_n 0, 1) := dk_42 (dk_at dksX7_refuseFar_0 0 rfl rfl)
theorem dX7_refuseFar_1 : decode cX7_refuseFar 1 = .ok (.getfield 60, 3) := dk_180 0 60 (dk_at dksX7_refuseFar_0 1 rfl rfl)
theorem dX7_refuseFar_4 : decode cX7_refuseFar 4 = .ok (.iconst 1, 1) := dk_4 (dk_at dksX7_refuseFar_0 4 rfl rfl)
theorem dX7_refuseFar_5 : decode cX7_refuseFar 5 = .ok (.dup2, 1) := dk_92 (dk_at dksX7_refuseFar_0 5 rfl rfl)
theorem dX7_refuseFar_6 : decode cX7_refuseFar 6 = .ok (.iaload, 1) := dk_46 (dk_at dksX7_refuseFar_0 6 rfl rfl)
theorem dX7_refuseFar_7 : decode cX7_refuseFar 7 = .ok (.iconst 1, 1) := dk_4 (dk_at dksX7_refuseFar_0 7 rfl rfl)
theorem dX7_refuseFar_8 : decode cX7_refuseFar 8 = .ok (.iadd, 1) := dk_96 (dk_at dksX7_refuseFar_0 8 rfl rfl)
theorem dX7_refuseFar_9 : decode cX7_refuseFar 9 = .ok (.iastore, 1) := dk_79 (dk_at dksX7_refuseFar_0 9 rfl rfl)
theorem dX7_refuseFar_10 : decode cX7_refuseFar 10 = .ok (.bipush (-99), 2) := dk_16 157 (dk_at dksX7_refuseFar_0 10 rfl rfl)
theorem dX7_refuseFar_12 : decode cX7_refuseFar 12 = .ok (.ireturn, 1) := dk_172 (dk_at dksX7_refuseFar_0 12 rfl rfl)
abbrev cX7_saw : ByteArray := prog_20_method_62_code
def yX7_saw : MethodName := ⟨RX7, "saw", "(II)I"⟩
def dkwX7_saw_2 : List UInt8 := [62, 42, 180, 0, 79, 27, 28, 79, 29, 172]
abbrev dktX7_saw_2 : List UInt8 := dkwX7_saw_2 ++ []
def dkwX7_saw_1 : List UInt8 := [20, 1, 113, 184, 0, 146, 154, 0, 8, 42, 182, 1, 115, 172, 42, 182, 1, 98, 42, 180, 0, 79, 27, 46]
abbrev dktX7_saw_1 : List UInt8 := dkwX7_saw_1 ++ dktX7_saw_2
def dkwX7_saw_0 : List UInt8 := [42, 3, 181, 0, 143, 42, 27, 182, 1, 77, 154, 0, 9, 42, 4, 182, 1, 13, 172, 28, 133, 20, 1, 111]
abbrev dktX7_saw_0 : List UInt8 := dkwX7_saw_0 ++ dktX7_saw_1
theorem dksX7_saw_0 : cX7_saw.data.toList.drop 0 = dktX7_saw_0 := by decide +kernel
theorem dksX7_saw_1 : cX7_saw.data.toList.drop 24 = dktX7_saw_1 := dk_seg dksX7_saw_0 24 rfl rfl
theorem dksX7_saw_2 : cX7_saw.data.toList.drop 48 = dktX7_saw_2 := dk_seg dksX7_saw_1 24 rfl rfl
theorem dX7_saw_0 : decode cX7_saw 0 = .ok (.aload_n 0, 1) := dk_42 (dk_at dksX7_saw_0 0 rfl rfl)
theorem dX7_saw_1 : decode cX7_saw 1 = .ok (.iconst 0, 1) := dk_3 (dk_at dksX7_saw_0 1 rfl rfl)
theorem dX7_saw_2 : decode cX7_saw 2 = .ok (.putfield 143, 3) := dk_181 0 143 (dk_at dksX7_saw_0 2 rfl rfl)
theorem dX7_saw_5 : decode cX7_saw 5 = .ok (.aload_n 0, 1) := dk_42 (dk_at dksX7_saw_0 5 rfl rfl)
theorem dX7_saw_6 : decode cX7_saw 6 = .ok (.iload_n 1, 1) := dk_27 (dk_at dksX7_saw_0 6 rfl rfl)
theorem dX7_saw_7 : decode cX7_saw 7 = .ok (.invokevirtual 333, 3) := dk_182 1 77 (dk_at dksX7_saw_0 7 rfl rfl)
theorem dX7_saw_10 : decode cX7_saw 10 = .ok (.ifCond .ne 9, 3) := dk_154 0 9 (dk_at dksX7_saw_0 10 rfl rfl)
theorem dX7_saw_13 : decode cX7_saw 13 = .ok (.aload_n 0, 1) := dk_42 (dk_at dksX7_saw_0 13 rfl rfl)
theorem dX7_saw_14 : decode cX7_saw 14 = .ok (.iconst 1, 1) := dk_4 (dk_at dksX7_saw_0 14 rfl rfl)
theorem dX7_saw_15 : decode cX7_saw 15 = .ok (.invokevirtual 269, 3) := dk_182 1 13 (dk_at dksX7_saw_0 15 rfl rfl)
theorem dX7_saw_18 : decode cX7_saw 18 = .ok (.ireturn, 1) := dk_172 (dk_at dksX7_saw_0 18 rfl rfl)
theorem dX7_saw_19 : decode cX7_saw 19 = .ok (.iload_n 2, 1) := dk_28 (dk_at dksX7_saw_0 19 rfl rfl)
theorem dX7_saw_20 : decode cX7_saw 20 = .ok (.i2l, 1) := dk_133 (dk_at dksX7_saw_0 20 rfl rfl)
theorem dX7_saw_21 : decode cX7_saw 21 = .ok (.ldc2_w 367, 3) := dk_20 1 111 (dk_at dksX7_saw_0 21 rfl rfl)
theorem dX7_saw_24 : decode cX7_saw 24 = .ok (.ldc2_w 369, 3) := dk_20 1 113 (dk_at dksX7_saw_1 0 rfl rfl)
theorem dX7_saw_27 : decode cX7_saw 27 = .ok (.invokestatic 146, 3) := dk_184 0 146 (dk_at dksX7_saw_1 3 rfl rfl)
theorem dX7_saw_30 : decode cX7_saw 30 = .ok (.ifCond .ne 8, 3) := dk_154 0 8 (dk_at dksX7_saw_1 6 rfl rfl)
theorem dX7_saw_33 : decode cX7_saw 33 = .ok (.aload_n 0, 1) := dk_42 (dk_at dksX7_saw_1 9 rfl rfl)
theorem dX7_saw_34 : decode cX7_saw 34 = .ok (.invokevirtual 371, 3) := dk_182 1 115 (dk_at dksX7_saw_1 10 rfl rfl)
theorem dX7_saw_37 : decode cX7_saw 37 = .ok (.ireturn, 1) := dk_172 (dk_at dksX7_saw_1 13 rfl rfl)
theorem dX7_saw_38 : decode cX7_saw 38 = .ok (.aload_n 0, 1) := dk_42 (dk_at dksX7_saw_1 14 rfl rfl)
theorem dX7_saw_39 : decode cX7_saw 39 = .ok (.invokevirtual 354, 3) := dk_182 1 98 (dk_at dksX7_saw_1 15 rfl rfl)
theorem dX7_saw_42 : decode cX7_saw 42 = .ok (.aload_n 0, 1) := dk_42 (dk_at dksX7_saw_1 18 rfl rfl)
theorem dX7_saw_43 : decode cX7_saw 43 = .ok (.getfield 79, 3) := dk_180 0 79 (dk_at dksX7_saw_1 19 rfl rfl)
theorem dX7_saw_46 : decode cX7_saw 46 = .ok (.iload_n 1, 1) := dk_27 (dk_at dksX7_saw_1 22 rfl rfl)
theorem dX7_saw_47 : decode cX7_saw 47 = .ok (.iaload, 1) := dk_46 (dk_at dksX7_saw_1 23 rfl rfl)
theorem dX7_saw_48 : decode cX7_saw 48 = .ok (.istore_n 3, 1) := dk_62 (dk_at dksX7_saw_2 0 rfl rfl)
theorem dX7_saw_49 : decode cX7_saw 49 = .ok (.aload_n 0, 1) := dk_42 (dk_at dksX7_saw_2 1 rfl rfl)
theorem dX7_saw_50 : decode cX7_saw 50 = .ok (.getfield 79, 3) := dk_180 0 79 (dk_at dksX7_saw_2 2 rfl rfl)
theorem dX7_saw_53 : decode cX7_saw 53 = .ok (.iload_n 1, 1) := dk_27 (dk_at dksX7_saw_2 5 rfl rfl)
theorem dX7_saw_54 : decode cX7_saw 54 = .ok (.iload_n 2, 1) := dk_28 (dk_at dksX7_saw_2 6 rfl rfl)
theorem dX7_saw_55 : decode cX7_saw 55 = .ok (.iastore, 1) := dk_79 (dk_at dksX7_saw_2 7 rfl rfl)
theorem dX7_saw_56 : decode cX7_saw 56 = .ok (.iload_n 3, 1) := dk_29 (dk_at dksX7_saw_2 8 rfl rfl)
theorem dX7_saw_57 : decode cX7_saw 57 = .ok (.ireturn, 1) := dk_172 (dk_at dksX7_saw_2 9 rfl rfl)
abbrev cX7_supper : ByteArray := prog_20_method_66_code
def yX7_supper : MethodName := ⟨RX7, "supper", "()I"⟩
def dkwX7_supper_1 : List UInt8 := [180, 0, 85, 172]
abbrev dktX7_supper_1 : List UInt8 := dkwX7_supper_1 ++ []
def dkwX7_supper_0 : List UInt8 := [42, 3, 181, 0, 143, 42, 182, 1, 98, 42, 42, 42, 180, 0, 42, 5, 46, 182, 1, 125, 181, 0, 85, 42]
abbrev dktX7_supper_0 : List UInt8 := dkwX7_supper_0 ++ dktX7_supper_1
theorem dksX7_supper_0 : cX7_supper.data.toList.drop 0 = dktX7_supper_0 := by decide +kernel
theorem dksX7_supper_1 : cX7_supper.data.toList.drop 24 = dktX7_supper_1 := dk_seg dksX7_supper_0 24 rfl rfl
theorem dX7_supper_0 : decode cX7_supper 0 = .ok (.aload_n 0, 1) := dk_42 (dk_at dksX7_supper_0 0 rfl rfl)
theorem dX7_supper_1 : decode cX7_supper 1 = .ok (.iconst 0, 1) := dk_3 (dk_at dksX7_supper_0 1 rfl rfl)
theorem dX7_supper_2 : decode cX7_supper 2 = .ok (.putfield 143, 3) := dk_181 0 143 (dk_at dksX7_supper_0 2 rfl rfl)
theorem dX7_supper_5 : decode cX7_supper 5 = .ok (.aload_n 0, 1) := dk_42 (dk_at dksX7_supper_0 5 rfl rfl)
theorem dX7_supper_6 : decode cX7_supper 6 = .ok (.invokevirtual 354, 3) := dk_182 1 98 (dk_at dksX7_supper_0 6 rfl rfl)
theorem dX7_supper_9 : decode cX7_supper 9 = .ok (.aload_n 0, 1) := dk_42 (dk_at dksX7_supper_0 9 rfl rfl)
theorem dX7_supper_10 : decode cX7_supper 10 = .ok (.aload_n 0, 1) := dk_42 (dk_at dksX7_supper_0 10 rfl rfl)
theorem dX7_supper_11 : decode cX7_supper 11 = .ok (.aload_n 0, 1) := dk_42 (dk_at dksX7_supper_0 11 rfl rfl)
theorem dX7_supper_12 : decode cX7_supper 12 = .ok (.getfield 42, 3) := dk_180 0 42 (dk_at dksX7_supper_0 12 rfl rfl)
theorem dX7_supper_15 : decode cX7_supper 15 = .ok (.iconst 2, 1) := dk_5 (dk_at dksX7_supper_0 15 rfl rfl)
theorem dX7_supper_16 : decode cX7_supper 16 = .ok (.iaload, 1) := dk_46 (dk_at dksX7_supper_0 16 rfl rfl)
theorem dX7_supper_17 : decode cX7_supper 17 = .ok (.invokevirtual 381, 3) := dk_182 1 125 (dk_at dksX7_supper_0 17 rfl rfl)
theorem dX7_supper_20 : decode cX7_supper 20 = .ok (.putfield 85, 3) := dk_181 0 85 (dk_at dksX7_supper_0 20 rfl rfl)
theorem dX7_supper_23 : decode cX7_supper 23 = .ok (.aload_n 0, 1) := dk_42 (dk_at dksX7_supper_0 23 rfl rfl)
theorem dX7_supper_24 : decode cX7_supper 24 = .ok (.getfield 85, 3) := dk_180 0 85 (dk_at dksX7_supper_1 0 rfl rfl)
theorem dX7_supper_27 : decode cX7_supper 27 = .ok (.ireturn, 1) := dk_172 (dk_at dksX7_supper_1 3 rfl rfl)
abbrev cX7_eat : ByteArray := prog_20_method_65_code
def yX7_eat : MethodName := ⟨RX7, "eat", "(I)I"⟩
def dkwX7_eat_6 : List UInt8 := [167, 255, 118, 28, 172]
abbrev dktX7_eat_6 : List UInt8 := dkwX7_eat_6 ++ []
def dkwX7_eat_5 : List UInt8 := [21, 5, 184, 0, 183, 184, 1, 42, 79, 28, 42, 180, 0, 73, 21, 4, 46, 100, 61, 132, 3, 1]
abbrev dktX7_eat_5 : List UInt8 := dkwX7_eat_5 ++ dktX7_eat_6
def dkwX7_eat_4 : List UInt8 := [42, 180, 0, 55, 21, 4, 46, 167, 0, 7, 42, 182, 1, 122, 54, 5, 42, 180, 0, 73, 21, 4, 3, 28]
abbrev dktX7_eat_4 : List UInt8 := dkwX7_eat_4 ++ dktX7_eat_5
def dkwX7_eat_3 : List UInt8 := [100, 79, 42, 180, 0, 88, 8, 42, 180, 0, 47, 21, 4, 46, 79, 42, 180, 0, 42, 6, 46, 154, 0, 13]
abbrev dktX7_eat_3 : List UInt8 := dkwX7_eat_3 ++ dktX7_eat_4
def dkwX7_eat_2 : List UInt8 := [180, 0, 88, 6, 42, 180, 0, 45, 21, 4, 46, 79, 42, 180, 0, 88, 7, 42, 180, 0, 150, 4, 100, 29]
abbrev dktX7_eat_2 : List UInt8 := dkwX7_eat_2 ++ dktX7_eat_3
def dkwX7_eat_1 : List UInt8 := [3, 29, 79, 42, 180, 0, 88, 4, 42, 180, 0, 55, 21, 4, 46, 79, 42, 180, 0, 88, 5, 28, 79, 42]
abbrev dktX7_eat_1 : List UInt8 := dkwX7_eat_1 ++ dktX7_eat_2
def dkwX7_eat_0 : List UInt8 := [27, 61, 3, 62, 29, 42, 180, 0, 150, 162, 0, 136, 42, 180, 0, 70, 29, 46, 54, 4, 42, 180, 0, 88]
abbrev dktX7_eat_0 : List UInt8 := dkwX7_eat_0 ++ dktX7_eat_1
theorem dksX7_eat_0 : cX7_eat.data.toList.drop 0 = dktX7_eat_0 := by decide +kernel
theorem dksX7_eat_1 : cX7_eat.data.toList.drop 24 = dktX7_eat_1 := dk_seg dksX7_eat_0 24 rfl rfl
theorem dksX7_eat_2 : cX7_eat.data.toList.drop 48 = dktX7_eat_2 := dk_seg dksX7_eat_1 24 rfl rfl
theorem dksX7_eat_3 : cX7_eat.data.toList.drop 72 = dktX7_eat_3 := dk_seg dksX7_eat_2 24 rfl rfl
theorem dksX7_eat_4 : cX7_eat.data.toList.drop 96 = dktX7_eat_4 := dk_seg dksX7_eat_3 24 rfl rfl
theorem dksX7_eat_5 : cX7_eat.data.toList.drop 120 = dktX7_eat_5 := dk_seg dksX7_eat_4 24 rfl rfl
theorem dksX7_eat_6 : cX7_eat.data.toList.drop 142 = dktX7_eat_6 := dk_seg dksX7_eat_5 22 rfl rfl
theorem dX7_eat_0 : decode cX7_eat 0 = .ok (.iload_n 1, 1) := dk_27 (dk_at dksX7_eat_0 0 rfl rfl)
theorem dX7_eat_1 : decode cX7_eat 1 = .ok (.istore_n 2, 1) := dk_61 (dk_at dksX7_eat_0 1 rfl rfl)
theorem dX7_eat_2 : decode cX7_eat 2 = .ok (.iconst 0, 1) := dk_3 (dk_at dksX7_eat_0 2 rfl rfl)
theorem dX7_eat_3 : decode cX7_eat 3 = .ok (.istore_n 3, 1) := dk_62 (dk_at dksX7_eat_0 3 rfl rfl)
theorem dX7_eat_4 : decode cX7_eat 4 = .ok (.iload_n 3, 1) := dk_29 (dk_at dksX7_eat_0 4 rfl rfl)
theorem dX7_eat_5 : decode cX7_eat 5 = .ok (.aload_n 0, 1) := dk_42 (dk_at dksX7_eat_0 5 rfl rfl)
theorem dX7_eat_6 : decode cX7_eat 6 = .ok (.getfield 150, 3) := dk_180 0 150 (dk_at dksX7_eat_0 6 rfl rfl)
theorem dX7_eat_9 : decode cX7_eat 9 = .ok (.if_icmp .ge 136, 3) := dk_162 0 136 (dk_at dksX7_eat_0 9 rfl rfl)
theorem dX7_eat_12 : decode cX7_eat 12 = .ok (.aload_n 0, 1) := dk_42 (dk_at dksX7_eat_0 12 rfl rfl)
theorem dX7_eat_13 : decode cX7_eat 13 = .ok (.getfield 70, 3) := dk_180 0 70 (dk_at dksX7_eat_0 13 rfl rfl)
theorem dX7_eat_16 : decode cX7_eat 16 = .ok (.iload_n 3, 1) := dk_29 (dk_at dksX7_eat_0 16 rfl rfl)
theorem dX7_eat_17 : decode cX7_eat 17 = .ok (.iaload, 1) := dk_46 (dk_at dksX7_eat_0 17 rfl rfl)
theorem dX7_eat_18 : decode cX7_eat 18 = .ok (.istore 4, 2) := dk_54 4 (dk_at dksX7_eat_0 18 rfl rfl)
theorem dX7_eat_20 : decode cX7_eat 20 = .ok (.aload_n 0, 1) := dk_42 (dk_at dksX7_eat_0 20 rfl rfl)
theorem dX7_eat_21 : decode cX7_eat 21 = .ok (.getfield 88, 3) := dk_180 0 88 (dk_at dksX7_eat_0 21 rfl rfl)
theorem dX7_eat_24 : decode cX7_eat 24 = .ok (.iconst 0, 1) := dk_3 (dk_at dksX7_eat_1 0 rfl rfl)
theorem dX7_eat_25 : decode cX7_eat 25 = .ok (.iload_n 3, 1) := dk_29 (dk_at dksX7_eat_1 1 rfl rfl)
theorem dX7_eat_26 : decode cX7_eat 26 = .ok (.iastore, 1) := dk_79 (dk_at dksX7_eat_1 2 rfl rfl)
theorem dX7_eat_27 : decode cX7_eat 27 = .ok (.aload_n 0, 1) := dk_42 (dk_at dksX7_eat_1 3 rfl rfl)
theorem dX7_eat_28 : decode cX7_eat 28 = .ok (.getfield 88, 3) := dk_180 0 88 (dk_at dksX7_eat_1 4 rfl rfl)
theorem dX7_eat_31 : decode cX7_eat 31 = .ok (.iconst 1, 1) := dk_4 (dk_at dksX7_eat_1 7 rfl rfl)
theorem dX7_eat_32 : decode cX7_eat 32 = .ok (.aload_n 0, 1) := dk_42 (dk_at dksX7_eat_1 8 rfl rfl)
theorem dX7_eat_33 : decode cX7_eat 33 = .ok (.getfield 55, 3) := dk_180 0 55 (dk_at dksX7_eat_1 9 rfl rfl)
theorem dX7_eat_36 : decode cX7_eat 36 = .ok (.iload 4, 2) := dk_21 4 (dk_at dksX7_eat_1 12 rfl rfl)
theorem dX7_eat_38 : decode cX7_eat 38 = .ok (.iaload, 1) := dk_46 (dk_at dksX7_eat_1 14 rfl rfl)
theorem dX7_eat_39 : decode cX7_eat 39 = .ok (.iastore, 1) := dk_79 (dk_at dksX7_eat_1 15 rfl rfl)
theorem dX7_eat_40 : decode cX7_eat 40 = .ok (.aload_n 0, 1) := dk_42 (dk_at dksX7_eat_1 16 rfl rfl)
theorem dX7_eat_41 : decode cX7_eat 41 = .ok (.getfield 88, 3) := dk_180 0 88 (dk_at dksX7_eat_1 17 rfl rfl)
theorem dX7_eat_44 : decode cX7_eat 44 = .ok (.iconst 2, 1) := dk_5 (dk_at dksX7_eat_1 20 rfl rfl)
theorem dX7_eat_45 : decode cX7_eat 45 = .ok (.iload_n 2, 1) := dk_28 (dk_at dksX7_eat_1 21 rfl rfl)
theorem dX7_eat_46 : decode cX7_eat 46 = .ok (.iastore, 1) := dk_79 (dk_at dksX7_eat_1 22 rfl rfl)
theorem dX7_eat_47 : decode cX7_eat 47 = .ok (.aload_n 0, 1) := dk_42 (dk_at dksX7_eat_1 23 rfl rfl)
theorem dX7_eat_48 : decode cX7_eat 48 = .ok (.getfield 88, 3) := dk_180 0 88 (dk_at dksX7_eat_2 0 rfl rfl)
theorem dX7_eat_51 : decode cX7_eat 51 = .ok (.iconst 3, 1) := dk_6 (dk_at dksX7_eat_2 3 rfl rfl)
theorem dX7_eat_52 : decode cX7_eat 52 = .ok (.aload_n 0, 1) := dk_42 (dk_at dksX7_eat_2 4 rfl rfl)
theorem dX7_eat_53 : decode cX7_eat 53 = .ok (.getfield 45, 3) := dk_180 0 45 (dk_at dksX7_eat_2 5 rfl rfl)
theorem dX7_eat_56 : decode cX7_eat 56 = .ok (.iload 4, 2) := dk_21 4 (dk_at dksX7_eat_2 8 rfl rfl)
theorem dX7_eat_58 : decode cX7_eat 58 = .ok (.iaload, 1) := dk_46 (dk_at dksX7_eat_2 10 rfl rfl)
theorem dX7_eat_59 : decode cX7_eat 59 = .ok (.iastore, 1) := dk_79 (dk_at dksX7_eat_2 11 rfl rfl)
theorem dX7_eat_60 : decode cX7_eat 60 = .ok (.aload_n 0, 1) := dk_42 (dk_at dksX7_eat_2 12 rfl rfl)
theorem dX7_eat_61 : decode cX7_eat 61 = .ok (.getfield 88, 3) := dk_180 0 88 (dk_at dksX7_eat_2 13 rfl rfl)
theorem dX7_eat_64 : decode cX7_eat 64 = .ok (.iconst 4, 1) := dk_7 (dk_at dksX7_eat_2 16 rfl rfl)
theorem dX7_eat_65 : decode cX7_eat 65 = .ok (.aload_n 0, 1) := dk_42 (dk_at dksX7_eat_2 17 rfl rfl)
theorem dX7_eat_66 : decode cX7_eat 66 = .ok (.getfield 150, 3) := dk_180 0 150 (dk_at dksX7_eat_2 18 rfl rfl)
theorem dX7_eat_69 : decode cX7_eat 69 = .ok (.iconst 1, 1) := dk_4 (dk_at dksX7_eat_2 21 rfl rfl)
theorem dX7_eat_70 : decode cX7_eat 70 = .ok (.isub, 1) := dk_100 (dk_at dksX7_eat_2 22 rfl rfl)
theorem dX7_eat_71 : decode cX7_eat 71 = .ok (.iload_n 3, 1) := dk_29 (dk_at dksX7_eat_2 23 rfl rfl)
theorem dX7_eat_72 : decode cX7_eat 72 = .ok (.isub, 1) := dk_100 (dk_at dksX7_eat_3 0 rfl rfl)
theorem dX7_eat_73 : decode cX7_eat 73 = .ok (.iastore, 1) := dk_79 (dk_at dksX7_eat_3 1 rfl rfl)
theorem dX7_eat_74 : decode cX7_eat 74 = .ok (.aload_n 0, 1) := dk_42 (dk_at dksX7_eat_3 2 rfl rfl)
theorem dX7_eat_75 : decode cX7_eat 75 = .ok (.getfield 88, 3) := dk_180 0 88 (dk_at dksX7_eat_3 3 rfl rfl)
theorem dX7_eat_78 : decode cX7_eat 78 = .ok (.iconst 5, 1) := dk_8 (dk_at dksX7_eat_3 6 rfl rfl)
theorem dX7_eat_79 : decode cX7_eat 79 = .ok (.aload_n 0, 1) := dk_42 (dk_at dksX7_eat_3 7 rfl rfl)
theorem dX7_eat_80 : decode cX7_eat 80 = .ok (.getfield 47, 3) := dk_180 0 47 (dk_at dksX7_eat_3 8 rfl rfl)
theorem dX7_eat_83 : decode cX7_eat 83 = .ok (.iload 4, 2) := dk_21 4 (dk_at dksX7_eat_3 11 rfl rfl)
theorem dX7_eat_85 : decode cX7_eat 85 = .ok (.iaload, 1) := dk_46 (dk_at dksX7_eat_3 13 rfl rfl)
theorem dX7_eat_86 : decode cX7_eat 86 = .ok (.iastore, 1) := dk_79 (dk_at dksX7_eat_3 14 rfl rfl)
theorem dX7_eat_87 : decode cX7_eat 87 = .ok (.aload_n 0, 1) := dk_42 (dk_at dksX7_eat_3 15 rfl rfl)
theorem dX7_eat_88 : decode cX7_eat 88 = .ok (.getfield 42, 3) := dk_180 0 42 (dk_at dksX7_eat_3 16 rfl rfl)
theorem dX7_eat_91 : decode cX7_eat 91 = .ok (.iconst 3, 1) := dk_6 (dk_at dksX7_eat_3 19 rfl rfl)
theorem dX7_eat_92 : decode cX7_eat 92 = .ok (.iaload, 1) := dk_46 (dk_at dksX7_eat_3 20 rfl rfl)
theorem dX7_eat_93 : decode cX7_eat 93 = .ok (.ifCond .ne 13, 3) := dk_154 0 13 (dk_at dksX7_eat_3 21 rfl rfl)
theorem dX7_eat_96 : decode cX7_eat 96 = .ok (.aload_n 0, 1) := dk_42 (dk_at dksX7_eat_4 0 rfl rfl)
theorem dX7_eat_97 : decode cX7_eat 97 = .ok (.getfield 55, 3) := dk_180 0 55 (dk_at dksX7_eat_4 1 rfl rfl)
theorem dX7_eat_100 : decode cX7_eat 100 = .ok (.iload 4, 2) := dk_21 4 (dk_at dksX7_eat_4 4 rfl rfl)
theorem dX7_eat_102 : decode cX7_eat 102 = .ok (.iaload, 1) := dk_46 (dk_at dksX7_eat_4 6 rfl rfl)
theorem dX7_eat_103 : decode cX7_eat 103 = .ok (.goto 7, 3) := dk_167 0 7 (dk_at dksX7_eat_4 7 rfl rfl)
theorem dX7_eat_106 : decode cX7_eat 106 = .ok (.aload_n 0, 1) := dk_42 (dk_at dksX7_eat_4 10 rfl rfl)
theorem dX7_eat_107 : decode cX7_eat 107 = .ok (.invokevirtual 378, 3) := dk_182 1 122 (dk_at dksX7_eat_4 11 rfl rfl)
theorem dX7_eat_110 : decode cX7_eat 110 = .ok (.istore 5, 2) := dk_54 5 (dk_at dksX7_eat_4 14 rfl rfl)
theorem dX7_eat_112 : decode cX7_eat 112 = .ok (.aload_n 0, 1) := dk_42 (dk_at dksX7_eat_4 16 rfl rfl)
theorem dX7_eat_113 : decode cX7_eat 113 = .ok (.getfield 73, 3) := dk_180 0 73 (dk_at dksX7_eat_4 17 rfl rfl)
theorem dX7_eat_116 : decode cX7_eat 116 = .ok (.iload 4, 2) := dk_21 4 (dk_at dksX7_eat_4 20 rfl rfl)
theorem dX7_eat_118 : decode cX7_eat 118 = .ok (.iconst 0, 1) := dk_3 (dk_at dksX7_eat_4 22 rfl rfl)
theorem dX7_eat_119 : decode cX7_eat 119 = .ok (.iload_n 2, 1) := dk_28 (dk_at dksX7_eat_4 23 rfl rfl)
theorem dX7_eat_120 : decode cX7_eat 120 = .ok (.iload 5, 2) := dk_21 5 (dk_at dksX7_eat_5 0 rfl rfl)
theorem dX7_eat_122 : decode cX7_eat 122 = .ok (.invokestatic 183, 3) := dk_184 0 183 (dk_at dksX7_eat_5 2 rfl rfl)
theorem dX7_eat_125 : decode cX7_eat 125 = .ok (.invokestatic 298, 3) := dk_184 1 42 (dk_at dksX7_eat_5 5 rfl rfl)
theorem dX7_eat_128 : decode cX7_eat 128 = .ok (.iastore, 1) := dk_79 (dk_at dksX7_eat_5 8 rfl rfl)
theorem dX7_eat_129 : decode cX7_eat 129 = .ok (.iload_n 2, 1) := dk_28 (dk_at dksX7_eat_5 9 rfl rfl)
theorem dX7_eat_130 : decode cX7_eat 130 = .ok (.aload_n 0, 1) := dk_42 (dk_at dksX7_eat_5 10 rfl rfl)
theorem dX7_eat_131 : decode cX7_eat 131 = .ok (.getfield 73, 3) := dk_180 0 73 (dk_at dksX7_eat_5 11 rfl rfl)
theorem dX7_eat_134 : decode cX7_eat 134 = .ok (.iload 4, 2) := dk_21 4 (dk_at dksX7_eat_5 14 rfl rfl)
theorem dX7_eat_136 : decode cX7_eat 136 = .ok (.iaload, 1) := dk_46 (dk_at dksX7_eat_5 16 rfl rfl)
theorem dX7_eat_137 : decode cX7_eat 137 = .ok (.isub, 1) := dk_100 (dk_at dksX7_eat_5 17 rfl rfl)
theorem dX7_eat_138 : decode cX7_eat 138 = .ok (.istore_n 2, 1) := dk_61 (dk_at dksX7_eat_5 18 rfl rfl)
theorem dX7_eat_139 : decode cX7_eat 139 = .ok (.iinc 3 1, 3) := dk_132 3 1 (dk_at dksX7_eat_5 19 rfl rfl)
theorem dX7_eat_142 : decode cX7_eat 142 = .ok (.goto (-138), 3) := dk_167 255 118 (dk_at dksX7_eat_6 0 rfl rfl)
theorem dX7_eat_145 : decode cX7_eat 145 = .ok (.iload_n 2, 1) := dk_28 (dk_at dksX7_eat_6 3 rfl rfl)
theorem dX7_eat_146 : decode cX7_eat 146 = .ok (.ireturn, 1) := dk_172 (dk_at dksX7_eat_6 4 rfl rfl)
abbrev cX7_valueNow : ByteArray := prog_20_method_64_code
def yX7_valueNow : MethodName := ⟨RX7, "valueNow", "()I"⟩
def dkwX7_valueNow_5 : List UInt8 := [167, 255, 140, 42, 180, 0, 91, 3, 46, 172]
abbrev dktX7_valueNow_5 : List UInt8 := dkwX7_valueNow_5 ++ []
def dkwX7_valueNow_4 : List UInt8 := [4, 100, 29, 42, 180, 0, 91, 27, 4, 100, 46, 42, 180, 0, 91, 27, 46, 184, 1, 118, 79, 132, 2, 1]
abbrev dktX7_valueNow_4 : List UInt8 := dkwX7_valueNow_4 ++ dktX7_valueNow_5
def dkwX7_valueNow_3 : List UInt8 := [27, 4, 100, 46, 153, 0, 7, 3, 167, 0, 4, 4, 79, 167, 0, 32, 132, 1, 255, 42, 180, 0, 91, 27]
abbrev dktX7_valueNow_3 : List UInt8 := dkwX7_valueNow_3 ++ dktX7_valueNow_4
def dkwX7_valueNow_2 : List UInt8 := [79, 132, 1, 1, 167, 0, 65, 29, 16, 228, 160, 0, 30, 42, 180, 0, 91, 27, 4, 100, 42, 180, 0, 91]
abbrev dktX7_valueNow_2 : List UInt8 := dkwX7_valueNow_2 ++ dktX7_valueNow_3
def dkwX7_valueNow_1 : List UInt8 := [164, 0, 31, 42, 180, 0, 91, 27, 29, 155, 0, 7, 29, 167, 0, 11, 42, 180, 0, 88, 2, 29, 100, 46]
abbrev dktX7_valueNow_1 : List UInt8 := dkwX7_valueNow_1 ++ dktX7_valueNow_2
def dkwX7_valueNow_0 : List UInt8 := [3, 60, 3, 61, 28, 42, 180, 0, 42, 6, 46, 162, 0, 112, 42, 180, 0, 57, 28, 46, 62, 29, 16, 236]
abbrev dktX7_valueNow_0 : List UInt8 := dkwX7_valueNow_0 ++ dktX7_valueNow_1
theorem dksX7_valueNow_0 : cX7_valueNow.data.toList.drop 0 = dktX7_valueNow_0 := by decide +kernel
theorem dksX7_valueNow_1 : cX7_valueNow.data.toList.drop 24 = dktX7_valueNow_1 := dk_seg dksX7_valueNow_0 24 rfl rfl
theorem dksX7_valueNow_2 : cX7_valueNow.data.toList.drop 48 = dktX7_valueNow_2 := dk_seg dksX7_valueNow_1 24 rfl rfl
theorem dksX7_valueNow_3 : cX7_valueNow.data.toList.drop 72 = dktX7_valueNow_3 := dk_seg dksX7_valueNow_2 24 rfl rfl
theorem dksX7_valueNow_4 : cX7_valueNow.data.toList.drop 96 = dktX7_valueNow_4 := dk_seg dksX7_valueNow_3 24 rfl rfl
theorem dksX7_valueNow_5 : cX7_valueNow.data.toList.drop 120 = dktX7_valueNow_5 := dk_seg dksX7_valueNow_4 24 rfl rfl
theorem dX7_valueNow_0 : decode cX7_valueNow 0 = .ok (.iconst 0, 1) := dk_3 (dk_at dksX7_valueNow_0 0 rfl rfl)
theorem dX7_valueNow_1 : decode cX7_valueNow 1 = .ok (.istore_n 1, 1) := dk_60 (dk_at dksX7_valueNow_0 1 rfl rfl)
theorem dX7_valueNow_2 : decode cX7_valueNow 2 = .ok (.iconst 0, 1) := dk_3 (dk_at dksX7_valueNow_0 2 rfl rfl)
theorem dX7_valueNow_3 : decode cX7_valueNow 3 = .ok (.istore_n 2, 1) := dk_61 (dk_at dksX7_valueNow_0 3 rfl rfl)
theorem dX7_valueNow_4 : decode cX7_valueNow 4 = .ok (.iload_n 2, 1) := dk_28 (dk_at dksX7_valueNow_0 4 rfl rfl)
theorem dX7_valueNow_5 : decode cX7_valueNow 5 = .ok (.aload_n 0, 1) := dk_42 (dk_at dksX7_valueNow_0 5 rfl rfl)
theorem dX7_valueNow_6 : decode cX7_valueNow 6 = .ok (.getfield 42, 3) := dk_180 0 42 (dk_at dksX7_valueNow_0 6 rfl rfl)
theorem dX7_valueNow_9 : decode cX7_valueNow 9 = .ok (.iconst 3, 1) := dk_6 (dk_at dksX7_valueNow_0 9 rfl rfl)
theorem dX7_valueNow_10 : decode cX7_valueNow 10 = .ok (.iaload, 1) := dk_46 (dk_at dksX7_valueNow_0 10 rfl rfl)
theorem dX7_valueNow_11 : decode cX7_valueNow 11 = .ok (.if_icmp .ge 112, 3) := dk_162 0 112 (dk_at dksX7_valueNow_0 11 rfl rfl)
theorem dX7_valueNow_14 : decode cX7_valueNow 14 = .ok (.aload_n 0, 1) := dk_42 (dk_at dksX7_valueNow_0 14 rfl rfl)
theorem dX7_valueNow_15 : decode cX7_valueNow 15 = .ok (.getfield 57, 3) := dk_180 0 57 (dk_at dksX7_valueNow_0 15 rfl rfl)
theorem dX7_valueNow_18 : decode cX7_valueNow 18 = .ok (.iload_n 2, 1) := dk_28 (dk_at dksX7_valueNow_0 18 rfl rfl)
theorem dX7_valueNow_19 : decode cX7_valueNow 19 = .ok (.iaload, 1) := dk_46 (dk_at dksX7_valueNow_0 19 rfl rfl)
theorem dX7_valueNow_20 : decode cX7_valueNow 20 = .ok (.istore_n 3, 1) := dk_62 (dk_at dksX7_valueNow_0 20 rfl rfl)
theorem dX7_valueNow_21 : decode cX7_valueNow 21 = .ok (.iload_n 3, 1) := dk_29 (dk_at dksX7_valueNow_0 21 rfl rfl)
theorem dX7_valueNow_22 : decode cX7_valueNow 22 = .ok (.bipush (-20), 2) := dk_16 236 (dk_at dksX7_valueNow_0 22 rfl rfl)
theorem dX7_valueNow_24 : decode cX7_valueNow 24 = .ok (.if_icmp .le 31, 3) := dk_164 0 31 (dk_at dksX7_valueNow_1 0 rfl rfl)
theorem dX7_valueNow_27 : decode cX7_valueNow 27 = .ok (.aload_n 0, 1) := dk_42 (dk_at dksX7_valueNow_1 3 rfl rfl)
theorem dX7_valueNow_28 : decode cX7_valueNow 28 = .ok (.getfield 91, 3) := dk_180 0 91 (dk_at dksX7_valueNow_1 4 rfl rfl)
theorem dX7_valueNow_31 : decode cX7_valueNow 31 = .ok (.iload_n 1, 1) := dk_27 (dk_at dksX7_valueNow_1 7 rfl rfl)
theorem dX7_valueNow_32 : decode cX7_valueNow 32 = .ok (.iload_n 3, 1) := dk_29 (dk_at dksX7_valueNow_1 8 rfl rfl)
theorem dX7_valueNow_33 : decode cX7_valueNow 33 = .ok (.ifCond .lt 7, 3) := dk_155 0 7 (dk_at dksX7_valueNow_1 9 rfl rfl)
theorem dX7_valueNow_36 : decode cX7_valueNow 36 = .ok (.iload_n 3, 1) := dk_29 (dk_at dksX7_valueNow_1 12 rfl rfl)
theorem dX7_valueNow_37 : decode cX7_valueNow 37 = .ok (.goto 11, 3) := dk_167 0 11 (dk_at dksX7_valueNow_1 13 rfl rfl)
theorem dX7_valueNow_40 : decode cX7_valueNow 40 = .ok (.aload_n 0, 1) := dk_42 (dk_at dksX7_valueNow_1 16 rfl rfl)
theorem dX7_valueNow_41 : decode cX7_valueNow 41 = .ok (.getfield 88, 3) := dk_180 0 88 (dk_at dksX7_valueNow_1 17 rfl rfl)
theorem dX7_valueNow_44 : decode cX7_valueNow 44 = .ok (.iconst (-1), 1) := dk_2 (dk_at dksX7_valueNow_1 20 rfl rfl)
theorem dX7_valueNow_45 : decode cX7_valueNow 45 = .ok (.iload_n 3, 1) := dk_29 (dk_at dksX7_valueNow_1 21 rfl rfl)
theorem dX7_valueNow_46 : decode cX7_valueNow 46 = .ok (.isub, 1) := dk_100 (dk_at dksX7_valueNow_1 22 rfl rfl)
theorem dX7_valueNow_47 : decode cX7_valueNow 47 = .ok (.iaload, 1) := dk_46 (dk_at dksX7_valueNow_1 23 rfl rfl)
theorem dX7_valueNow_48 : decode cX7_valueNow 48 = .ok (.iastore, 1) := dk_79 (dk_at dksX7_valueNow_2 0 rfl rfl)
theorem dX7_valueNow_49 : decode cX7_valueNow 49 = .ok (.iinc 1 1, 3) := dk_132 1 1 (dk_at dksX7_valueNow_2 1 rfl rfl)
theorem dX7_valueNow_52 : decode cX7_valueNow 52 = .ok (.goto 65, 3) := dk_167 0 65 (dk_at dksX7_valueNow_2 4 rfl rfl)
theorem dX7_valueNow_55 : decode cX7_valueNow 55 = .ok (.iload_n 3, 1) := dk_29 (dk_at dksX7_valueNow_2 7 rfl rfl)
theorem dX7_valueNow_56 : decode cX7_valueNow 56 = .ok (.bipush (-28), 2) := dk_16 228 (dk_at dksX7_valueNow_2 8 rfl rfl)
theorem dX7_valueNow_58 : decode cX7_valueNow 58 = .ok (.if_icmp .ne 30, 3) := dk_160 0 30 (dk_at dksX7_valueNow_2 10 rfl rfl)
theorem dX7_valueNow_61 : decode cX7_valueNow 61 = .ok (.aload_n 0, 1) := dk_42 (dk_at dksX7_valueNow_2 13 rfl rfl)
theorem dX7_valueNow_62 : decode cX7_valueNow 62 = .ok (.getfield 91, 3) := dk_180 0 91 (dk_at dksX7_valueNow_2 14 rfl rfl)
theorem dX7_valueNow_65 : decode cX7_valueNow 65 = .ok (.iload_n 1, 1) := dk_27 (dk_at dksX7_valueNow_2 17 rfl rfl)
theorem dX7_valueNow_66 : decode cX7_valueNow 66 = .ok (.iconst 1, 1) := dk_4 (dk_at dksX7_valueNow_2 18 rfl rfl)
theorem dX7_valueNow_67 : decode cX7_valueNow 67 = .ok (.isub, 1) := dk_100 (dk_at dksX7_valueNow_2 19 rfl rfl)
theorem dX7_valueNow_68 : decode cX7_valueNow 68 = .ok (.aload_n 0, 1) := dk_42 (dk_at dksX7_valueNow_2 20 rfl rfl)
theorem dX7_valueNow_69 : decode cX7_valueNow 69 = .ok (.getfield 91, 3) := dk_180 0 91 (dk_at dksX7_valueNow_2 21 rfl rfl)
theorem dX7_valueNow_72 : decode cX7_valueNow 72 = .ok (.iload_n 1, 1) := dk_27 (dk_at dksX7_valueNow_3 0 rfl rfl)
theorem dX7_valueNow_73 : decode cX7_valueNow 73 = .ok (.iconst 1, 1) := dk_4 (dk_at dksX7_valueNow_3 1 rfl rfl)
theorem dX7_valueNow_74 : decode cX7_valueNow 74 = .ok (.isub, 1) := dk_100 (dk_at dksX7_valueNow_3 2 rfl rfl)
theorem dX7_valueNow_75 : decode cX7_valueNow 75 = .ok (.iaload, 1) := dk_46 (dk_at dksX7_valueNow_3 3 rfl rfl)
theorem dX7_valueNow_76 : decode cX7_valueNow 76 = .ok (.ifCond .eq 7, 3) := dk_153 0 7 (dk_at dksX7_valueNow_3 4 rfl rfl)
theorem dX7_valueNow_79 : decode cX7_valueNow 79 = .ok (.iconst 0, 1) := dk_3 (dk_at dksX7_valueNow_3 7 rfl rfl)
theorem dX7_valueNow_80 : decode cX7_valueNow 80 = .ok (.goto 4, 3) := dk_167 0 4 (dk_at dksX7_valueNow_3 8 rfl rfl)
theorem dX7_valueNow_83 : decode cX7_valueNow 83 = .ok (.iconst 1, 1) := dk_4 (dk_at dksX7_valueNow_3 11 rfl rfl)
theorem dX7_valueNow_84 : decode cX7_valueNow 84 = .ok (.iastore, 1) := dk_79 (dk_at dksX7_valueNow_3 12 rfl rfl)
theorem dX7_valueNow_85 : decode cX7_valueNow 85 = .ok (.goto 32, 3) := dk_167 0 32 (dk_at dksX7_valueNow_3 13 rfl rfl)
theorem dX7_valueNow_88 : decode cX7_valueNow 88 = .ok (.iinc 1 (-1), 3) := dk_132 1 255 (dk_at dksX7_valueNow_3 16 rfl rfl)
theorem dX7_valueNow_91 : decode cX7_valueNow 91 = .ok (.aload_n 0, 1) := dk_42 (dk_at dksX7_valueNow_3 19 rfl rfl)
theorem dX7_valueNow_92 : decode cX7_valueNow 92 = .ok (.getfield 91, 3) := dk_180 0 91 (dk_at dksX7_valueNow_3 20 rfl rfl)
theorem dX7_valueNow_95 : decode cX7_valueNow 95 = .ok (.iload_n 1, 1) := dk_27 (dk_at dksX7_valueNow_3 23 rfl rfl)
theorem dX7_valueNow_96 : decode cX7_valueNow 96 = .ok (.iconst 1, 1) := dk_4 (dk_at dksX7_valueNow_4 0 rfl rfl)
theorem dX7_valueNow_97 : decode cX7_valueNow 97 = .ok (.isub, 1) := dk_100 (dk_at dksX7_valueNow_4 1 rfl rfl)
theorem dX7_valueNow_98 : decode cX7_valueNow 98 = .ok (.iload_n 3, 1) := dk_29 (dk_at dksX7_valueNow_4 2 rfl rfl)
theorem dX7_valueNow_99 : decode cX7_valueNow 99 = .ok (.aload_n 0, 1) := dk_42 (dk_at dksX7_valueNow_4 3 rfl rfl)
theorem dX7_valueNow_100 : decode cX7_valueNow 100 = .ok (.getfield 91, 3) := dk_180 0 91 (dk_at dksX7_valueNow_4 4 rfl rfl)
theorem dX7_valueNow_103 : decode cX7_valueNow 103 = .ok (.iload_n 1, 1) := dk_27 (dk_at dksX7_valueNow_4 7 rfl rfl)
theorem dX7_valueNow_104 : decode cX7_valueNow 104 = .ok (.iconst 1, 1) := dk_4 (dk_at dksX7_valueNow_4 8 rfl rfl)
theorem dX7_valueNow_105 : decode cX7_valueNow 105 = .ok (.isub, 1) := dk_100 (dk_at dksX7_valueNow_4 9 rfl rfl)
theorem dX7_valueNow_106 : decode cX7_valueNow 106 = .ok (.iaload, 1) := dk_46 (dk_at dksX7_valueNow_4 10 rfl rfl)
theorem dX7_valueNow_107 : decode cX7_valueNow 107 = .ok (.aload_n 0, 1) := dk_42 (dk_at dksX7_valueNow_4 11 rfl rfl)
theorem dX7_valueNow_108 : decode cX7_valueNow 108 = .ok (.getfield 91, 3) := dk_180 0 91 (dk_at dksX7_valueNow_4 12 rfl rfl)
theorem dX7_valueNow_111 : decode cX7_valueNow 111 = .ok (.iload_n 1, 1) := dk_27 (dk_at dksX7_valueNow_4 15 rfl rfl)
theorem dX7_valueNow_112 : decode cX7_valueNow 112 = .ok (.iaload, 1) := dk_46 (dk_at dksX7_valueNow_4 16 rfl rfl)
theorem dX7_valueNow_113 : decode cX7_valueNow 113 = .ok (.invokestatic 374, 3) := dk_184 1 118 (dk_at dksX7_valueNow_4 17 rfl rfl)
theorem dX7_valueNow_116 : decode cX7_valueNow 116 = .ok (.iastore, 1) := dk_79 (dk_at dksX7_valueNow_4 20 rfl rfl)
theorem dX7_valueNow_117 : decode cX7_valueNow 117 = .ok (.iinc 2 1, 3) := dk_132 2 1 (dk_at dksX7_valueNow_4 21 rfl rfl)
theorem dX7_valueNow_120 : decode cX7_valueNow 120 = .ok (.goto (-116), 3) := dk_167 255 140 (dk_at dksX7_valueNow_5 0 rfl rfl)
theorem dX7_valueNow_123 : decode cX7_valueNow 123 = .ok (.aload_n 0, 1) := dk_42 (dk_at dksX7_valueNow_5 3 rfl rfl)
theorem dX7_valueNow_124 : decode cX7_valueNow 124 = .ok (.getfield 91, 3) := dk_180 0 91 (dk_at dksX7_valueNow_5 4 rfl rfl)
theorem dX7_valueNow_127 : decode cX7_valueNow 127 = .ok (.iconst 0, 1) := dk_3 (dk_at dksX7_valueNow_5 7 rfl rfl)
theorem dX7_valueNow_128 : decode cX7_valueNow 128 = .ok (.iaload, 1) := dk_46 (dk_at dksX7_valueNow_5 8 rfl rfl)
theorem dX7_valueNow_129 : decode cX7_valueNow 129 = .ok (.ireturn, 1) := dk_172 (dk_at dksX7_valueNow_5 9 rfl rfl)
abbrev cX7_reckon : ByteArray := prog_20_method_63_code
def yX7_reckon : MethodName := ⟨RX7, "reckon", "(III)I"⟩
def dkwX7_reckon_5 : List UInt8 := [167, 0, 4, 3, 172]
abbrev dktX7_reckon_5 : List UInt8 := dkwX7_reckon_5 ++ []
def dkwX7_reckon_4 : List UInt8 := [153, 0, 11, 28, 153, 0, 7, 4, 167, 0, 4, 3, 172, 27, 154, 0, 7, 28, 153, 0, 7, 4]
abbrev dktX7_reckon_4 : List UInt8 := dkwX7_reckon_4 ++ dktX7_reckon_5
def dkwX7_reckon_3 : List UInt8 := [27, 28, 162, 0, 7, 4, 167, 0, 4, 3, 172, 27, 28, 160, 0, 7, 4, 167, 0, 4, 3, 172, 27]
abbrev dktX7_reckon_3 : List UInt8 := dkwX7_reckon_3 ++ dktX7_reckon_4
def dkwX7_reckon_2 : List UInt8 := [27, 28, 96, 172, 27, 28, 100, 172, 27, 28, 104, 172, 28, 154, 0, 7, 3, 167, 0, 6, 27, 28, 108, 172]
abbrev dktX7_reckon_2 : List UInt8 := dkwX7_reckon_2 ++ dktX7_reckon_3
def dkwX7_reckon_1 : List UInt8 := [170, 0, 0, 0, 0, 0, 103, 255, 255, 255, 230, 255, 255, 255, 236, 0, 0, 0, 89, 0, 0, 0, 78, 0, 0, 0, 67, 0, 0, 0, 55, 0, 0, 0, 51, 0, 0, 0, 47, 0, 0, 0, 43]
abbrev dktX7_reckon_1 : List UInt8 := dkwX7_reckon_1 ++ dktX7_reckon_2
def dkwX7_reckon_0 : List UInt8 := [26]
abbrev dktX7_reckon_0 : List UInt8 := dkwX7_reckon_0 ++ dktX7_reckon_1
theorem dksX7_reckon_0 : cX7_reckon.data.toList.drop 0 = dktX7_reckon_0 := by decide +kernel
theorem dksX7_reckon_1 : cX7_reckon.data.toList.drop 1 = dktX7_reckon_1 := dk_seg dksX7_reckon_0 1 rfl rfl
theorem dksX7_reckon_2 : cX7_reckon.data.toList.drop 44 = dktX7_reckon_2 := dk_seg dksX7_reckon_1 43 rfl rfl
theorem dksX7_reckon_3 : cX7_reckon.data.toList.drop 68 = dktX7_reckon_3 := dk_seg dksX7_reckon_2 24 rfl rfl
theorem dksX7_reckon_4 : cX7_reckon.data.toList.drop 91 = dktX7_reckon_4 := dk_seg dksX7_reckon_3 23 rfl rfl
theorem dksX7_reckon_5 : cX7_reckon.data.toList.drop 113 = dktX7_reckon_5 := dk_seg dksX7_reckon_4 22 rfl rfl
theorem dX7_reckon_0 : decode cX7_reckon 0 = .ok (.iload_n 0, 1) := dk_26 (dk_at dksX7_reckon_0 0 rfl rfl)
theorem dX7_reckon_1 : decode cX7_reckon 1 = .ok (.tableswitch 103 (-26) (-20) #[89, 78, 67, 55, 51, 47, 43], 43) := by decide +kernel
theorem dX7_reckon_44 : decode cX7_reckon 44 = .ok (.iload_n 1, 1) := dk_27 (dk_at dksX7_reckon_2 0 rfl rfl)
theorem dX7_reckon_45 : decode cX7_reckon 45 = .ok (.iload_n 2, 1) := dk_28 (dk_at dksX7_reckon_2 1 rfl rfl)
theorem dX7_reckon_46 : decode cX7_reckon 46 = .ok (.iadd, 1) := dk_96 (dk_at dksX7_reckon_2 2 rfl rfl)
theorem dX7_reckon_47 : decode cX7_reckon 47 = .ok (.ireturn, 1) := dk_172 (dk_at dksX7_reckon_2 3 rfl rfl)
theorem dX7_reckon_48 : decode cX7_reckon 48 = .ok (.iload_n 1, 1) := dk_27 (dk_at dksX7_reckon_2 4 rfl rfl)
theorem dX7_reckon_49 : decode cX7_reckon 49 = .ok (.iload_n 2, 1) := dk_28 (dk_at dksX7_reckon_2 5 rfl rfl)
theorem dX7_reckon_50 : decode cX7_reckon 50 = .ok (.isub, 1) := dk_100 (dk_at dksX7_reckon_2 6 rfl rfl)
theorem dX7_reckon_51 : decode cX7_reckon 51 = .ok (.ireturn, 1) := dk_172 (dk_at dksX7_reckon_2 7 rfl rfl)
theorem dX7_reckon_52 : decode cX7_reckon 52 = .ok (.iload_n 1, 1) := dk_27 (dk_at dksX7_reckon_2 8 rfl rfl)
theorem dX7_reckon_53 : decode cX7_reckon 53 = .ok (.iload_n 2, 1) := dk_28 (dk_at dksX7_reckon_2 9 rfl rfl)
theorem dX7_reckon_54 : decode cX7_reckon 54 = .ok (.imul, 1) := dk_104 (dk_at dksX7_reckon_2 10 rfl rfl)
theorem dX7_reckon_55 : decode cX7_reckon 55 = .ok (.ireturn, 1) := dk_172 (dk_at dksX7_reckon_2 11 rfl rfl)
theorem dX7_reckon_56 : decode cX7_reckon 56 = .ok (.iload_n 2, 1) := dk_28 (dk_at dksX7_reckon_2 12 rfl rfl)
theorem dX7_reckon_57 : decode cX7_reckon 57 = .ok (.ifCond .ne 7, 3) := dk_154 0 7 (dk_at dksX7_reckon_2 13 rfl rfl)
theorem dX7_reckon_60 : decode cX7_reckon 60 = .ok (.iconst 0, 1) := dk_3 (dk_at dksX7_reckon_2 16 rfl rfl)
theorem dX7_reckon_61 : decode cX7_reckon 61 = .ok (.goto 6, 3) := dk_167 0 6 (dk_at dksX7_reckon_2 17 rfl rfl)
theorem dX7_reckon_64 : decode cX7_reckon 64 = .ok (.iload_n 1, 1) := dk_27 (dk_at dksX7_reckon_2 20 rfl rfl)
theorem dX7_reckon_65 : decode cX7_reckon 65 = .ok (.iload_n 2, 1) := dk_28 (dk_at dksX7_reckon_2 21 rfl rfl)
theorem dX7_reckon_66 : decode cX7_reckon 66 = .ok (.idiv, 1) := dk_108 (dk_at dksX7_reckon_2 22 rfl rfl)
theorem dX7_reckon_67 : decode cX7_reckon 67 = .ok (.ireturn, 1) := dk_172 (dk_at dksX7_reckon_2 23 rfl rfl)
theorem dX7_reckon_68 : decode cX7_reckon 68 = .ok (.iload_n 1, 1) := dk_27 (dk_at dksX7_reckon_3 0 rfl rfl)
theorem dX7_reckon_69 : decode cX7_reckon 69 = .ok (.iload_n 2, 1) := dk_28 (dk_at dksX7_reckon_3 1 rfl rfl)
theorem dX7_reckon_70 : decode cX7_reckon 70 = .ok (.if_icmp .ge 7, 3) := dk_162 0 7 (dk_at dksX7_reckon_3 2 rfl rfl)
theorem dX7_reckon_73 : decode cX7_reckon 73 = .ok (.iconst 1, 1) := dk_4 (dk_at dksX7_reckon_3 5 rfl rfl)
theorem dX7_reckon_74 : decode cX7_reckon 74 = .ok (.goto 4, 3) := dk_167 0 4 (dk_at dksX7_reckon_3 6 rfl rfl)
theorem dX7_reckon_77 : decode cX7_reckon 77 = .ok (.iconst 0, 1) := dk_3 (dk_at dksX7_reckon_3 9 rfl rfl)
theorem dX7_reckon_78 : decode cX7_reckon 78 = .ok (.ireturn, 1) := dk_172 (dk_at dksX7_reckon_3 10 rfl rfl)
theorem dX7_reckon_79 : decode cX7_reckon 79 = .ok (.iload_n 1, 1) := dk_27 (dk_at dksX7_reckon_3 11 rfl rfl)
theorem dX7_reckon_80 : decode cX7_reckon 80 = .ok (.iload_n 2, 1) := dk_28 (dk_at dksX7_reckon_3 12 rfl rfl)
theorem dX7_reckon_81 : decode cX7_reckon 81 = .ok (.if_icmp .ne 7, 3) := dk_160 0 7 (dk_at dksX7_reckon_3 13 rfl rfl)
theorem dX7_reckon_84 : decode cX7_reckon 84 = .ok (.iconst 1, 1) := dk_4 (dk_at dksX7_reckon_3 16 rfl rfl)
theorem dX7_reckon_85 : decode cX7_reckon 85 = .ok (.goto 4, 3) := dk_167 0 4 (dk_at dksX7_reckon_3 17 rfl rfl)
theorem dX7_reckon_88 : decode cX7_reckon 88 = .ok (.iconst 0, 1) := dk_3 (dk_at dksX7_reckon_3 20 rfl rfl)
theorem dX7_reckon_89 : decode cX7_reckon 89 = .ok (.ireturn, 1) := dk_172 (dk_at dksX7_reckon_3 21 rfl rfl)
theorem dX7_reckon_90 : decode cX7_reckon 90 = .ok (.iload_n 1, 1) := dk_27 (dk_at dksX7_reckon_3 22 rfl rfl)
theorem dX7_reckon_91 : decode cX7_reckon 91 = .ok (.ifCond .eq 11, 3) := dk_153 0 11 (dk_at dksX7_reckon_4 0 rfl rfl)
theorem dX7_reckon_94 : decode cX7_reckon 94 = .ok (.iload_n 2, 1) := dk_28 (dk_at dksX7_reckon_4 3 rfl rfl)
theorem dX7_reckon_95 : decode cX7_reckon 95 = .ok (.ifCond .eq 7, 3) := dk_153 0 7 (dk_at dksX7_reckon_4 4 rfl rfl)
theorem dX7_reckon_98 : decode cX7_reckon 98 = .ok (.iconst 1, 1) := dk_4 (dk_at dksX7_reckon_4 7 rfl rfl)
theorem dX7_reckon_99 : decode cX7_reckon 99 = .ok (.goto 4, 3) := dk_167 0 4 (dk_at dksX7_reckon_4 8 rfl rfl)
theorem dX7_reckon_102 : decode cX7_reckon 102 = .ok (.iconst 0, 1) := dk_3 (dk_at dksX7_reckon_4 11 rfl rfl)
theorem dX7_reckon_103 : decode cX7_reckon 103 = .ok (.ireturn, 1) := dk_172 (dk_at dksX7_reckon_4 12 rfl rfl)
theorem dX7_reckon_104 : decode cX7_reckon 104 = .ok (.iload_n 1, 1) := dk_27 (dk_at dksX7_reckon_4 13 rfl rfl)
theorem dX7_reckon_105 : decode cX7_reckon 105 = .ok (.ifCond .ne 7, 3) := dk_154 0 7 (dk_at dksX7_reckon_4 14 rfl rfl)
theorem dX7_reckon_108 : decode cX7_reckon 108 = .ok (.iload_n 2, 1) := dk_28 (dk_at dksX7_reckon_4 17 rfl rfl)
theorem dX7_reckon_109 : decode cX7_reckon 109 = .ok (.ifCond .eq 7, 3) := dk_153 0 7 (dk_at dksX7_reckon_4 18 rfl rfl)
theorem dX7_reckon_112 : decode cX7_reckon 112 = .ok (.iconst 1, 1) := dk_4 (dk_at dksX7_reckon_4 21 rfl rfl)
theorem dX7_reckon_113 : decode cX7_reckon 113 = .ok (.goto 4, 3) := dk_167 0 4 (dk_at dksX7_reckon_5 0 rfl rfl)
theorem dX7_reckon_116 : decode cX7_reckon 116 = .ok (.iconst 0, 1) := dk_3 (dk_at dksX7_reckon_5 3 rfl rfl)
theorem dX7_reckon_117 : decode cX7_reckon 117 = .ok (.ireturn, 1) := dk_172 (dk_at dksX7_reckon_5 4 rfl rfl)
abbrev cX7_years : ByteArray := prog_20_method_67_code
def yX7_years : MethodName := ⟨RX7, "years", "(I)I"⟩
def dkwX7_years_2 : List UInt8 := [181, 1, 26, 42, 180, 1, 26, 172]
abbrev dktX7_years_2 : List UInt8 := dkwX7_years_2 ++ []
def dkwX7_years_1 : List UInt8 := [17, 3, 231, 164, 0, 9, 42, 4, 182, 1, 95, 172, 42, 182, 1, 98, 42, 89, 180, 1, 26, 27, 96]
abbrev dktX7_years_1 : List UInt8 := dkwX7_years_1 ++ dktX7_years_2
def dkwX7_years_0 : List UInt8 := [42, 3, 181, 0, 143, 27, 133, 10, 20, 1, 128, 184, 0, 146, 153, 0, 15, 42, 180, 1, 26, 27, 96]
abbrev dktX7_years_0 : List UInt8 := dkwX7_years_0 ++ dktX7_years_1
theorem dksX7_years_0 : cX7_years.data.toList.drop 0 = dktX7_years_0 := by decide +kernel
theorem dksX7_years_1 : cX7_years.data.toList.drop 23 = dktX7_years_1 := dk_seg dksX7_years_0 23 rfl rfl
theorem dksX7_years_2 : cX7_years.data.toList.drop 46 = dktX7_years_2 := dk_seg dksX7_years_1 23 rfl rfl
theorem dX7_years_0 : decode cX7_years 0 = .ok (.aload_n 0, 1) := dk_42 (dk_at dksX7_years_0 0 rfl rfl)
theorem dX7_years_1 : decode cX7_years 1 = .ok (.iconst 0, 1) := dk_3 (dk_at dksX7_years_0 1 rfl rfl)
theorem dX7_years_2 : decode cX7_years 2 = .ok (.putfield 143, 3) := dk_181 0 143 (dk_at dksX7_years_0 2 rfl rfl)
theorem dX7_years_5 : decode cX7_years 5 = .ok (.iload_n 1, 1) := dk_27 (dk_at dksX7_years_0 5 rfl rfl)
theorem dX7_years_6 : decode cX7_years 6 = .ok (.i2l, 1) := dk_133 (dk_at dksX7_years_0 6 rfl rfl)
theorem dX7_years_7 : decode cX7_years 7 = .ok (.lconst 1, 1) := dk_10 (dk_at dksX7_years_0 7 rfl rfl)
theorem dX7_years_8 : decode cX7_years 8 = .ok (.ldc2_w 384, 3) := dk_20 1 128 (dk_at dksX7_years_0 8 rfl rfl)
theorem dX7_years_11 : decode cX7_years 11 = .ok (.invokestatic 146, 3) := dk_184 0 146 (dk_at dksX7_years_0 11 rfl rfl)
theorem dX7_years_14 : decode cX7_years 14 = .ok (.ifCond .eq 15, 3) := dk_153 0 15 (dk_at dksX7_years_0 14 rfl rfl)
theorem dX7_years_17 : decode cX7_years 17 = .ok (.aload_n 0, 1) := dk_42 (dk_at dksX7_years_0 17 rfl rfl)
theorem dX7_years_18 : decode cX7_years 18 = .ok (.getfield 282, 3) := dk_180 1 26 (dk_at dksX7_years_0 18 rfl rfl)
theorem dX7_years_21 : decode cX7_years 21 = .ok (.iload_n 1, 1) := dk_27 (dk_at dksX7_years_0 21 rfl rfl)
theorem dX7_years_22 : decode cX7_years 22 = .ok (.iadd, 1) := dk_96 (dk_at dksX7_years_0 22 rfl rfl)
theorem dX7_years_23 : decode cX7_years 23 = .ok (.sipush 999, 3) := dk_17 3 231 (dk_at dksX7_years_1 0 rfl rfl)
theorem dX7_years_26 : decode cX7_years 26 = .ok (.if_icmp .le 9, 3) := dk_164 0 9 (dk_at dksX7_years_1 3 rfl rfl)
theorem dX7_years_29 : decode cX7_years 29 = .ok (.aload_n 0, 1) := dk_42 (dk_at dksX7_years_1 6 rfl rfl)
theorem dX7_years_30 : decode cX7_years 30 = .ok (.iconst 1, 1) := dk_4 (dk_at dksX7_years_1 7 rfl rfl)
theorem dX7_years_31 : decode cX7_years 31 = .ok (.invokevirtual 351, 3) := dk_182 1 95 (dk_at dksX7_years_1 8 rfl rfl)
theorem dX7_years_34 : decode cX7_years 34 = .ok (.ireturn, 1) := dk_172 (dk_at dksX7_years_1 11 rfl rfl)
theorem dX7_years_35 : decode cX7_years 35 = .ok (.aload_n 0, 1) := dk_42 (dk_at dksX7_years_1 12 rfl rfl)
theorem dX7_years_36 : decode cX7_years 36 = .ok (.invokevirtual 354, 3) := dk_182 1 98 (dk_at dksX7_years_1 13 rfl rfl)
theorem dX7_years_39 : decode cX7_years 39 = .ok (.aload_n 0, 1) := dk_42 (dk_at dksX7_years_1 16 rfl rfl)
theorem dX7_years_40 : decode cX7_years 40 = .ok (.dup, 1) := dk_89 (dk_at dksX7_years_1 17 rfl rfl)
theorem dX7_years_41 : decode cX7_years 41 = .ok (.getfield 282, 3) := dk_180 1 26 (dk_at dksX7_years_1 18 rfl rfl)
theorem dX7_years_44 : decode cX7_years 44 = .ok (.iload_n 1, 1) := dk_27 (dk_at dksX7_years_1 21 rfl rfl)
theorem dX7_years_45 : decode cX7_years 45 = .ok (.iadd, 1) := dk_96 (dk_at dksX7_years_1 22 rfl rfl)
theorem dX7_years_46 : decode cX7_years 46 = .ok (.putfield 282, 3) := dk_181 1 26 (dk_at dksX7_years_2 0 rfl rfl)
theorem dX7_years_49 : decode cX7_years 49 = .ok (.aload_n 0, 1) := dk_42 (dk_at dksX7_years_2 3 rfl rfl)
theorem dX7_years_50 : decode cX7_years 50 = .ok (.getfield 282, 3) := dk_180 1 26 (dk_at dksX7_years_2 4 rfl rfl)
theorem dX7_years_53 : decode cX7_years 53 = .ok (.ireturn, 1) := dk_172 (dk_at dksX7_years_2 7 rfl rfl)
abbrev cX7_undo : ByteArray := prog_20_method_68_code
def yX7_undo : MethodName := ⟨RX7, "undo", "()I"⟩
def dkwX7_undo_1 : List UInt8 := [42, 42, 180, 0, 82, 16, 43, 42, 180, 1, 29, 104, 182, 1, 130, 42, 180, 1, 29, 172]
abbrev dktX7_undo_1 : List UInt8 := dkwX7_undo_1 ++ []
def dkwX7_undo_0 : List UInt8 := [42, 3, 181, 0, 143, 42, 180, 1, 29, 154, 0, 5, 2, 172, 42, 89, 180, 1, 29, 4, 100, 181, 1, 29]
abbrev dktX7_undo_0 : List UInt8 := dkwX7_undo_0 ++ dktX7_undo_1
theorem dksX7_undo_0 : cX7_undo.data.toList.drop 0 = dktX7_undo_0 := by decide +kernel
theorem dksX7_undo_1 : cX7_undo.data.toList.drop 24 = dktX7_undo_1 := dk_seg dksX7_undo_0 24 rfl rfl
theorem dX7_undo_0 : decode cX7_undo 0 = .ok (.aload_n 0, 1) := dk_42 (dk_at dksX7_undo_0 0 rfl rfl)
theorem dX7_undo_1 : decode cX7_undo 1 = .ok (.iconst 0, 1) := dk_3 (dk_at dksX7_undo_0 1 rfl rfl)
theorem dX7_undo_2 : decode cX7_undo 2 = .ok (.putfield 143, 3) := dk_181 0 143 (dk_at dksX7_undo_0 2 rfl rfl)
theorem dX7_undo_5 : decode cX7_undo 5 = .ok (.aload_n 0, 1) := dk_42 (dk_at dksX7_undo_0 5 rfl rfl)
theorem dX7_undo_6 : decode cX7_undo 6 = .ok (.getfield 285, 3) := dk_180 1 29 (dk_at dksX7_undo_0 6 rfl rfl)
theorem dX7_undo_9 : decode cX7_undo 9 = .ok (.ifCond .ne 5, 3) := dk_154 0 5 (dk_at dksX7_undo_0 9 rfl rfl)
theorem dX7_undo_12 : decode cX7_undo 12 = .ok (.iconst (-1), 1) := dk_2 (dk_at dksX7_undo_0 12 rfl rfl)
theorem dX7_undo_13 : decode cX7_undo 13 = .ok (.ireturn, 1) := dk_172 (dk_at dksX7_undo_0 13 rfl rfl)
theorem dX7_undo_14 : decode cX7_undo 14 = .ok (.aload_n 0, 1) := dk_42 (dk_at dksX7_undo_0 14 rfl rfl)
theorem dX7_undo_15 : decode cX7_undo 15 = .ok (.dup, 1) := dk_89 (dk_at dksX7_undo_0 15 rfl rfl)
theorem dX7_undo_16 : decode cX7_undo 16 = .ok (.getfield 285, 3) := dk_180 1 29 (dk_at dksX7_undo_0 16 rfl rfl)
theorem dX7_undo_19 : decode cX7_undo 19 = .ok (.iconst 1, 1) := dk_4 (dk_at dksX7_undo_0 19 rfl rfl)
theorem dX7_undo_20 : decode cX7_undo 20 = .ok (.isub, 1) := dk_100 (dk_at dksX7_undo_0 20 rfl rfl)
theorem dX7_undo_21 : decode cX7_undo 21 = .ok (.putfield 285, 3) := dk_181 1 29 (dk_at dksX7_undo_0 21 rfl rfl)
theorem dX7_undo_24 : decode cX7_undo 24 = .ok (.aload_n 0, 1) := dk_42 (dk_at dksX7_undo_1 0 rfl rfl)
theorem dX7_undo_25 : decode cX7_undo 25 = .ok (.aload_n 0, 1) := dk_42 (dk_at dksX7_undo_1 1 rfl rfl)
theorem dX7_undo_26 : decode cX7_undo 26 = .ok (.getfield 82, 3) := dk_180 0 82 (dk_at dksX7_undo_1 2 rfl rfl)
theorem dX7_undo_29 : decode cX7_undo 29 = .ok (.bipush 43, 2) := dk_16 43 (dk_at dksX7_undo_1 5 rfl rfl)
theorem dX7_undo_31 : decode cX7_undo 31 = .ok (.aload_n 0, 1) := dk_42 (dk_at dksX7_undo_1 7 rfl rfl)
theorem dX7_undo_32 : decode cX7_undo 32 = .ok (.getfield 285, 3) := dk_180 1 29 (dk_at dksX7_undo_1 8 rfl rfl)
theorem dX7_undo_35 : decode cX7_undo 35 = .ok (.imul, 1) := dk_104 (dk_at dksX7_undo_1 11 rfl rfl)
theorem dX7_undo_36 : decode cX7_undo 36 = .ok (.invokevirtual 386, 3) := dk_182 1 130 (dk_at dksX7_undo_1 12 rfl rfl)
theorem dX7_undo_39 : decode cX7_undo 39 = .ok (.aload_n 0, 1) := dk_42 (dk_at dksX7_undo_1 15 rfl rfl)
theorem dX7_undo_40 : decode cX7_undo 40 = .ok (.getfield 285, 3) := dk_180 1 29 (dk_at dksX7_undo_1 16 rfl rfl)
theorem dX7_undo_43 : decode cX7_undo 43 = .ok (.ireturn, 1) := dk_172 (dk_at dksX7_undo_1 19 rfl rfl)
abbrev cX7_unpack : ByteArray := prog_20_method_35_code
def yX7_unpack : MethodName := ⟨RX7, "unpack", "([II)V"⟩
def dkwX7_unpack_4 : List UInt8 := [132, 3, 1, 167, 255, 186, 177]
abbrev dktX7_unpack_4 : List UInt8 := dkwX7_unpack_4 ++ []
def dkwX7_unpack_3 : List UInt8 := [96, 16, 20, 96, 29, 96, 46, 79, 42, 180, 0, 79, 29, 43, 28, 6, 96, 16, 30, 96, 29, 96, 46, 79]
abbrev dktX7_unpack_3 : List UInt8 := dkwX7_unpack_3 ++ dktX7_unpack_4
def dkwX7_unpack_2 : List UInt8 := [42, 180, 0, 73, 29, 43, 28, 6, 96, 16, 10, 96, 29, 96, 46, 79, 42, 180, 0, 76, 29, 43, 28, 6]
abbrev dktX7_unpack_2 : List UInt8 := dkwX7_unpack_2 ++ dktX7_unpack_3
def dkwX7_unpack_1 : List UInt8 := [181, 0, 85, 3, 62, 29, 16, 10, 162, 0, 70, 42, 180, 0, 70, 29, 43, 28, 6, 96, 29, 96, 46, 79]
abbrev dktX7_unpack_1 : List UInt8 := dkwX7_unpack_1 ++ dktX7_unpack_2
def dkwX7_unpack_0 : List UInt8 := [42, 43, 28, 46, 181, 0, 150, 42, 43, 28, 4, 96, 46, 181, 1, 26, 42, 43, 28, 5, 96, 46]
abbrev dktX7_unpack_0 : List UInt8 := dkwX7_unpack_0 ++ dktX7_unpack_1
theorem dksX7_unpack_0 : cX7_unpack.data.toList.drop 0 = dktX7_unpack_0 := by decide +kernel
theorem dksX7_unpack_1 : cX7_unpack.data.toList.drop 22 = dktX7_unpack_1 := dk_seg dksX7_unpack_0 22 rfl rfl
theorem dksX7_unpack_2 : cX7_unpack.data.toList.drop 46 = dktX7_unpack_2 := dk_seg dksX7_unpack_1 24 rfl rfl
theorem dksX7_unpack_3 : cX7_unpack.data.toList.drop 70 = dktX7_unpack_3 := dk_seg dksX7_unpack_2 24 rfl rfl
theorem dksX7_unpack_4 : cX7_unpack.data.toList.drop 94 = dktX7_unpack_4 := dk_seg dksX7_unpack_3 24 rfl rfl
theorem dX7_unpack_0 : decode cX7_unpack 0 = .ok (.aload_n 0, 1) := dk_42 (dk_at dksX7_unpack_0 0 rfl rfl)
theorem dX7_unpack_1 : decode cX7_unpack 1 = .ok (.aload_n 1, 1) := dk_43 (dk_at dksX7_unpack_0 1 rfl rfl)
theorem dX7_unpack_2 : decode cX7_unpack 2 = .ok (.iload_n 2, 1) := dk_28 (dk_at dksX7_unpack_0 2 rfl rfl)
theorem dX7_unpack_3 : decode cX7_unpack 3 = .ok (.iaload, 1) := dk_46 (dk_at dksX7_unpack_0 3 rfl rfl)
theorem dX7_unpack_4 : decode cX7_unpack 4 = .ok (.putfield 150, 3) := dk_181 0 150 (dk_at dksX7_unpack_0 4 rfl rfl)
theorem dX7_unpack_7 : decode cX7_unpack 7 = .ok (.aload_n 0, 1) := dk_42 (dk_at dksX7_unpack_0 7 rfl rfl)
theorem dX7_unpack_8 : decode cX7_unpack 8 = .ok (.aload_n 1, 1) := dk_43 (dk_at dksX7_unpack_0 8 rfl rfl)
theorem dX7_unpack_9 : decode cX7_unpack 9 = .ok (.iload_n 2, 1) := dk_28 (dk_at dksX7_unpack_0 9 rfl rfl)
theorem dX7_unpack_10 : decode cX7_unpack 10 = .ok (.iconst 1, 1) := dk_4 (dk_at dksX7_unpack_0 10 rfl rfl)
theorem dX7_unpack_11 : decode cX7_unpack 11 = .ok (.iadd, 1) := dk_96 (dk_at dksX7_unpack_0 11 rfl rfl)
theorem dX7_unpack_12 : decode cX7_unpack 12 = .ok (.iaload, 1) := dk_46 (dk_at dksX7_unpack_0 12 rfl rfl)
theorem dX7_unpack_13 : decode cX7_unpack 13 = .ok (.putfield 282, 3) := dk_181 1 26 (dk_at dksX7_unpack_0 13 rfl rfl)
theorem dX7_unpack_16 : decode cX7_unpack 16 = .ok (.aload_n 0, 1) := dk_42 (dk_at dksX7_unpack_0 16 rfl rfl)
theorem dX7_unpack_17 : decode cX7_unpack 17 = .ok (.aload_n 1, 1) := dk_43 (dk_at dksX7_unpack_0 17 rfl rfl)
theorem dX7_unpack_18 : decode cX7_unpack 18 = .ok (.iload_n 2, 1) := dk_28 (dk_at dksX7_unpack_0 18 rfl rfl)
theorem dX7_unpack_19 : decode cX7_unpack 19 = .ok (.iconst 2, 1) := dk_5 (dk_at dksX7_unpack_0 19 rfl rfl)
theorem dX7_unpack_20 : decode cX7_unpack 20 = .ok (.iadd, 1) := dk_96 (dk_at dksX7_unpack_0 20 rfl rfl)
theorem dX7_unpack_21 : decode cX7_unpack 21 = .ok (.iaload, 1) := dk_46 (dk_at dksX7_unpack_0 21 rfl rfl)
theorem dX7_unpack_22 : decode cX7_unpack 22 = .ok (.putfield 85, 3) := dk_181 0 85 (dk_at dksX7_unpack_1 0 rfl rfl)
theorem dX7_unpack_25 : decode cX7_unpack 25 = .ok (.iconst 0, 1) := dk_3 (dk_at dksX7_unpack_1 3 rfl rfl)
theorem dX7_unpack_26 : decode cX7_unpack 26 = .ok (.istore_n 3, 1) := dk_62 (dk_at dksX7_unpack_1 4 rfl rfl)
theorem dX7_unpack_27 : decode cX7_unpack 27 = .ok (.iload_n 3, 1) := dk_29 (dk_at dksX7_unpack_1 5 rfl rfl)
theorem dX7_unpack_28 : decode cX7_unpack 28 = .ok (.bipush 10, 2) := dk_16 10 (dk_at dksX7_unpack_1 6 rfl rfl)
theorem dX7_unpack_30 : decode cX7_unpack 30 = .ok (.if_icmp .ge 70, 3) := dk_162 0 70 (dk_at dksX7_unpack_1 8 rfl rfl)
theorem dX7_unpack_33 : decode cX7_unpack 33 = .ok (.aload_n 0, 1) := dk_42 (dk_at dksX7_unpack_1 11 rfl rfl)
theorem dX7_unpack_34 : decode cX7_unpack 34 = .ok (.getfield 70, 3) := dk_180 0 70 (dk_at dksX7_unpack_1 12 rfl rfl)
theorem dX7_unpack_37 : decode cX7_unpack 37 = .ok (.iload_n 3, 1) := dk_29 (dk_at dksX7_unpack_1 15 rfl rfl)
theorem dX7_unpack_38 : decode cX7_unpack 38 = .ok (.aload_n 1, 1) := dk_43 (dk_at dksX7_unpack_1 16 rfl rfl)
theorem dX7_unpack_39 : decode cX7_unpack 39 = .ok (.iload_n 2, 1) := dk_28 (dk_at dksX7_unpack_1 17 rfl rfl)
theorem dX7_unpack_40 : decode cX7_unpack 40 = .ok (.iconst 3, 1) := dk_6 (dk_at dksX7_unpack_1 18 rfl rfl)
theorem dX7_unpack_41 : decode cX7_unpack 41 = .ok (.iadd, 1) := dk_96 (dk_at dksX7_unpack_1 19 rfl rfl)
theorem dX7_unpack_42 : decode cX7_unpack 42 = .ok (.iload_n 3, 1) := dk_29 (dk_at dksX7_unpack_1 20 rfl rfl)
theorem dX7_unpack_43 : decode cX7_unpack 43 = .ok (.iadd, 1) := dk_96 (dk_at dksX7_unpack_1 21 rfl rfl)
theorem dX7_unpack_44 : decode cX7_unpack 44 = .ok (.iaload, 1) := dk_46 (dk_at dksX7_unpack_1 22 rfl rfl)
theorem dX7_unpack_45 : decode cX7_unpack 45 = .ok (.iastore, 1) := dk_79 (dk_at dksX7_unpack_1 23 rfl rfl)
theorem dX7_unpack_46 : decode cX7_unpack 46 = .ok (.aload_n 0, 1) := dk_42 (dk_at dksX7_unpack_2 0 rfl rfl)
theorem dX7_unpack_47 : decode cX7_unpack 47 = .ok (.getfield 73, 3) := dk_180 0 73 (dk_at dksX7_unpack_2 1 rfl rfl)
theorem dX7_unpack_50 : decode cX7_unpack 50 = .ok (.iload_n 3, 1) := dk_29 (dk_at dksX7_unpack_2 4 rfl rfl)
theorem dX7_unpack_51 : decode cX7_unpack 51 = .ok (.aload_n 1, 1) := dk_43 (dk_at dksX7_unpack_2 5 rfl rfl)
theorem dX7_unpack_52 : decode cX7_unpack 52 = .ok (.iload_n 2, 1) := dk_28 (dk_at dksX7_unpack_2 6 rfl rfl)
theorem dX7_unpack_53 : decode cX7_unpack 53 = .ok (.iconst 3, 1) := dk_6 (dk_at dksX7_unpack_2 7 rfl rfl)
theorem dX7_unpack_54 : decode cX7_unpack 54 = .ok (.iadd, 1) := dk_96 (dk_at dksX7_unpack_2 8 rfl rfl)
theorem dX7_unpack_55 : decode cX7_unpack 55 = .ok (.bipush 10, 2) := dk_16 10 (dk_at dksX7_unpack_2 9 rfl rfl)
theorem dX7_unpack_57 : decode cX7_unpack 57 = .ok (.iadd, 1) := dk_96 (dk_at dksX7_unpack_2 11 rfl rfl)
theorem dX7_unpack_58 : decode cX7_unpack 58 = .ok (.iload_n 3, 1) := dk_29 (dk_at dksX7_unpack_2 12 rfl rfl)
theorem dX7_unpack_59 : decode cX7_unpack 59 = .ok (.iadd, 1) := dk_96 (dk_at dksX7_unpack_2 13 rfl rfl)
theorem dX7_unpack_60 : decode cX7_unpack 60 = .ok (.iaload, 1) := dk_46 (dk_at dksX7_unpack_2 14 rfl rfl)
theorem dX7_unpack_61 : decode cX7_unpack 61 = .ok (.iastore, 1) := dk_79 (dk_at dksX7_unpack_2 15 rfl rfl)
theorem dX7_unpack_62 : decode cX7_unpack 62 = .ok (.aload_n 0, 1) := dk_42 (dk_at dksX7_unpack_2 16 rfl rfl)
theorem dX7_unpack_63 : decode cX7_unpack 63 = .ok (.getfield 76, 3) := dk_180 0 76 (dk_at dksX7_unpack_2 17 rfl rfl)
theorem dX7_unpack_66 : decode cX7_unpack 66 = .ok (.iload_n 3, 1) := dk_29 (dk_at dksX7_unpack_2 20 rfl rfl)
theorem dX7_unpack_67 : decode cX7_unpack 67 = .ok (.aload_n 1, 1) := dk_43 (dk_at dksX7_unpack_2 21 rfl rfl)
theorem dX7_unpack_68 : decode cX7_unpack 68 = .ok (.iload_n 2, 1) := dk_28 (dk_at dksX7_unpack_2 22 rfl rfl)
theorem dX7_unpack_69 : decode cX7_unpack 69 = .ok (.iconst 3, 1) := dk_6 (dk_at dksX7_unpack_2 23 rfl rfl)
theorem dX7_unpack_70 : decode cX7_unpack 70 = .ok (.iadd, 1) := dk_96 (dk_at dksX7_unpack_3 0 rfl rfl)
theorem dX7_unpack_71 : decode cX7_unpack 71 = .ok (.bipush 20, 2) := dk_16 20 (dk_at dksX7_unpack_3 1 rfl rfl)
theorem dX7_unpack_73 : decode cX7_unpack 73 = .ok (.iadd, 1) := dk_96 (dk_at dksX7_unpack_3 3 rfl rfl)
theorem dX7_unpack_74 : decode cX7_unpack 74 = .ok (.iload_n 3, 1) := dk_29 (dk_at dksX7_unpack_3 4 rfl rfl)
theorem dX7_unpack_75 : decode cX7_unpack 75 = .ok (.iadd, 1) := dk_96 (dk_at dksX7_unpack_3 5 rfl rfl)
theorem dX7_unpack_76 : decode cX7_unpack 76 = .ok (.iaload, 1) := dk_46 (dk_at dksX7_unpack_3 6 rfl rfl)
theorem dX7_unpack_77 : decode cX7_unpack 77 = .ok (.iastore, 1) := dk_79 (dk_at dksX7_unpack_3 7 rfl rfl)
theorem dX7_unpack_78 : decode cX7_unpack 78 = .ok (.aload_n 0, 1) := dk_42 (dk_at dksX7_unpack_3 8 rfl rfl)
theorem dX7_unpack_79 : decode cX7_unpack 79 = .ok (.getfield 79, 3) := dk_180 0 79 (dk_at dksX7_unpack_3 9 rfl rfl)
theorem dX7_unpack_82 : decode cX7_unpack 82 = .ok (.iload_n 3, 1) := dk_29 (dk_at dksX7_unpack_3 12 rfl rfl)
theorem dX7_unpack_83 : decode cX7_unpack 83 = .ok (.aload_n 1, 1) := dk_43 (dk_at dksX7_unpack_3 13 rfl rfl)
theorem dX7_unpack_84 : decode cX7_unpack 84 = .ok (.iload_n 2, 1) := dk_28 (dk_at dksX7_unpack_3 14 rfl rfl)
theorem dX7_unpack_85 : decode cX7_unpack 85 = .ok (.iconst 3, 1) := dk_6 (dk_at dksX7_unpack_3 15 rfl rfl)
theorem dX7_unpack_86 : decode cX7_unpack 86 = .ok (.iadd, 1) := dk_96 (dk_at dksX7_unpack_3 16 rfl rfl)
theorem dX7_unpack_87 : decode cX7_unpack 87 = .ok (.bipush 30, 2) := dk_16 30 (dk_at dksX7_unpack_3 17 rfl rfl)
theorem dX7_unpack_89 : decode cX7_unpack 89 = .ok (.iadd, 1) := dk_96 (dk_at dksX7_unpack_3 19 rfl rfl)
theorem dX7_unpack_90 : decode cX7_unpack 90 = .ok (.iload_n 3, 1) := dk_29 (dk_at dksX7_unpack_3 20 rfl rfl)
theorem dX7_unpack_91 : decode cX7_unpack 91 = .ok (.iadd, 1) := dk_96 (dk_at dksX7_unpack_3 21 rfl rfl)
theorem dX7_unpack_92 : decode cX7_unpack 92 = .ok (.iaload, 1) := dk_46 (dk_at dksX7_unpack_3 22 rfl rfl)
theorem dX7_unpack_93 : decode cX7_unpack 93 = .ok (.iastore, 1) := dk_79 (dk_at dksX7_unpack_3 23 rfl rfl)
theorem dX7_unpack_94 : decode cX7_unpack 94 = .ok (.iinc 3 1, 3) := dk_132 3 1 (dk_at dksX7_unpack_4 0 rfl rfl)
theorem dX7_unpack_97 : decode cX7_unpack 97 = .ok (.goto (-70), 3) := dk_167 255 186 (dk_at dksX7_unpack_4 3 rfl rfl)
theorem dX7_unpack_100 : decode cX7_unpack 100 = .ok (.return_, 1) := dk_177 (dk_at dksX7_unpack_4 6 rfl rfl)
abbrev cX7_more : ByteArray := prog_20_method_69_code
def yX7_more : MethodName := ⟨RX7, "more", "()I"⟩
def dkwX7_more_0 : List UInt8 := [42, 3, 181, 0, 143, 42, 182, 1, 133, 172]
abbrev dktX7_more_0 : List UInt8 := dkwX7_more_0 ++ []
theorem dksX7_more_0 : cX7_more.data.toList.drop 0 = dktX7_more_0 := by decide +kernel
theorem dX7_more_0 : decode cX7_more 0 = .ok (.aload_n 0, 1) := dk_42 (dk_at dksX7_more_0 0 rfl rfl)
theorem dX7_more_1 : decode cX7_more 1 = .ok (.iconst 0, 1) := dk_3 (dk_at dksX7_more_0 1 rfl rfl)
theorem dX7_more_2 : decode cX7_more 2 = .ok (.putfield 143, 3) := dk_181 0 143 (dk_at dksX7_more_0 2 rfl rfl)
theorem dX7_more_5 : decode cX7_more 5 = .ok (.aload_n 0, 1) := dk_42 (dk_at dksX7_more_0 5 rfl rfl)
theorem dX7_more_6 : decode cX7_more 6 = .ok (.invokevirtual 389, 3) := dk_182 1 133 (dk_at dksX7_more_0 6 rfl rfl)
theorem dX7_more_9 : decode cX7_more 9 = .ok (.ireturn, 1) := dk_172 (dk_at dksX7_more_0 9 rfl rfl)
abbrev cX7_moreNow : ByteArray := prog_20_method_46_code
def yX7_moreNow : MethodName := ⟨RX7, "moreNow", "()I"⟩
def dkwX7_moreNow_1 : List UInt8 := [42, 28, 182, 1, 55, 42, 28, 182, 1, 52, 100, 184, 0, 183, 60, 132, 2, 1, 167, 255, 229, 27, 172]
abbrev dktX7_moreNow_1 : List UInt8 := dkwX7_moreNow_1 ++ []
def dkwX7_moreNow_0 : List UInt8 := [42, 182, 1, 70, 154, 0, 5, 2, 172, 17, 39, 15, 60, 3, 61, 28, 42, 180, 0, 150, 162, 0, 25, 27]
abbrev dktX7_moreNow_0 : List UInt8 := dkwX7_moreNow_0 ++ dktX7_moreNow_1
theorem dksX7_moreNow_0 : cX7_moreNow.data.toList.drop 0 = dktX7_moreNow_0 := by decide +kernel
theorem dksX7_moreNow_1 : cX7_moreNow.data.toList.drop 24 = dktX7_moreNow_1 := dk_seg dksX7_moreNow_0 24 rfl rfl
theorem dX7_moreNow_0 : decode cX7_moreNow 0 = .ok (.aload_n 0, 1) := dk_42 (dk_at dksX7_moreNow_0 0 rfl rfl)
theorem dX7_moreNow_1 : decode cX7_moreNow 1 = .ok (.invokevirtual 326, 3) := dk_182 1 70 (dk_at dksX7_moreNow_0 1 rfl rfl)
theorem dX7_moreNow_4 : decode cX7_moreNow 4 = .ok (.ifCond .ne 5, 3) := dk_154 0 5 (dk_at dksX7_moreNow_0 4 rfl rfl)
theorem dX7_moreNow_7 : decode cX7_moreNow 7 = .ok (.iconst (-1), 1) := dk_2 (dk_at dksX7_moreNow_0 7 rfl rfl)
theorem dX7_moreNow_8 : decode cX7_moreNow 8 = .ok (.ireturn, 1) := dk_172 (dk_at dksX7_moreNow_0 8 rfl rfl)
theorem dX7_moreNow_9 : decode cX7_moreNow 9 = .ok (.sipush 9999, 3) := dk_17 39 15 (dk_at dksX7_moreNow_0 9 rfl rfl)
theorem dX7_moreNow_12 : decode cX7_moreNow 12 = .ok (.istore_n 1, 1) := dk_60 (dk_at dksX7_moreNow_0 12 rfl rfl)
theorem dX7_moreNow_13 : decode cX7_moreNow 13 = .ok (.iconst 0, 1) := dk_3 (dk_at dksX7_moreNow_0 13 rfl rfl)
theorem dX7_moreNow_14 : decode cX7_moreNow 14 = .ok (.istore_n 2, 1) := dk_61 (dk_at dksX7_moreNow_0 14 rfl rfl)
theorem dX7_moreNow_15 : decode cX7_moreNow 15 = .ok (.iload_n 2, 1) := dk_28 (dk_at dksX7_moreNow_0 15 rfl rfl)
theorem dX7_moreNow_16 : decode cX7_moreNow 16 = .ok (.aload_n 0, 1) := dk_42 (dk_at dksX7_moreNow_0 16 rfl rfl)
theorem dX7_moreNow_17 : decode cX7_moreNow 17 = .ok (.getfield 150, 3) := dk_180 0 150 (dk_at dksX7_moreNow_0 17 rfl rfl)
theorem dX7_moreNow_20 : decode cX7_moreNow 20 = .ok (.if_icmp .ge 25, 3) := dk_162 0 25 (dk_at dksX7_moreNow_0 20 rfl rfl)
theorem dX7_moreNow_23 : decode cX7_moreNow 23 = .ok (.iload_n 1, 1) := dk_27 (dk_at dksX7_moreNow_0 23 rfl rfl)
theorem dX7_moreNow_24 : decode cX7_moreNow 24 = .ok (.aload_n 0, 1) := dk_42 (dk_at dksX7_moreNow_1 0 rfl rfl)
theorem dX7_moreNow_25 : decode cX7_moreNow 25 = .ok (.iload_n 2, 1) := dk_28 (dk_at dksX7_moreNow_1 1 rfl rfl)
theorem dX7_moreNow_26 : decode cX7_moreNow 26 = .ok (.invokevirtual 311, 3) := dk_182 1 55 (dk_at dksX7_moreNow_1 2 rfl rfl)
theorem dX7_moreNow_29 : decode cX7_moreNow 29 = .ok (.aload_n 0, 1) := dk_42 (dk_at dksX7_moreNow_1 5 rfl rfl)
theorem dX7_moreNow_30 : decode cX7_moreNow 30 = .ok (.iload_n 2, 1) := dk_28 (dk_at dksX7_moreNow_1 6 rfl rfl)
theorem dX7_moreNow_31 : decode cX7_moreNow 31 = .ok (.invokevirtual 308, 3) := dk_182 1 52 (dk_at dksX7_moreNow_1 7 rfl rfl)
theorem dX7_moreNow_34 : decode cX7_moreNow 34 = .ok (.isub, 1) := dk_100 (dk_at dksX7_moreNow_1 10 rfl rfl)
theorem dX7_moreNow_35 : decode cX7_moreNow 35 = .ok (.invokestatic 183, 3) := dk_184 0 183 (dk_at dksX7_moreNow_1 11 rfl rfl)
theorem dX7_moreNow_38 : decode cX7_moreNow 38 = .ok (.istore_n 1, 1) := dk_60 (dk_at dksX7_moreNow_1 14 rfl rfl)
theorem dX7_moreNow_39 : decode cX7_moreNow 39 = .ok (.iinc 2 1, 3) := dk_132 2 1 (dk_at dksX7_moreNow_1 15 rfl rfl)
theorem dX7_moreNow_42 : decode cX7_moreNow 42 = .ok (.goto (-27), 3) := dk_167 255 229 (dk_at dksX7_moreNow_1 18 rfl rfl)
theorem dX7_moreNow_45 : decode cX7_moreNow 45 = .ok (.iload_n 1, 1) := dk_27 (dk_at dksX7_moreNow_1 21 rfl rfl)
theorem dX7_moreNow_46 : decode cX7_moreNow 46 = .ok (.ireturn, 1) := dk_172 (dk_at dksX7_moreNow_1 22 rfl rfl)
abbrev cX7_without : ByteArray := prog_20_method_70_code
def yX7_without : MethodName := ⟨RX7, "without", "(I)Z"⟩
def dkwX7_without_2 : List UInt8 := [61, 42, 42, 180, 0, 94, 3, 182, 1, 130, 28, 172]
abbrev dktX7_without_2 : List UInt8 := dkwX7_without_2 ++ []
def dkwX7_without_1 : List UInt8 := [2, 160, 0, 5, 3, 172, 42, 42, 180, 0, 94, 3, 182, 1, 91, 42, 27, 182, 1, 101, 42, 182, 1, 70]
abbrev dktX7_without_1 : List UInt8 := dkwX7_without_1 ++ dktX7_without_2
def dkwX7_without_0 : List UInt8 := [42, 3, 181, 0, 143, 42, 27, 182, 1, 77, 154, 0, 9, 42, 4, 182, 1, 104, 172, 42, 27, 182, 1, 80]
abbrev dktX7_without_0 : List UInt8 := dkwX7_without_0 ++ dktX7_without_1
theorem dksX7_without_0 : cX7_without.data.toList.drop 0 = dktX7_without_0 := by decide +kernel
theorem dksX7_without_1 : cX7_without.data.toList.drop 24 = dktX7_without_1 := dk_seg dksX7_without_0 24 rfl rfl
theorem dksX7_without_2 : cX7_without.data.toList.drop 48 = dktX7_without_2 := dk_seg dksX7_without_1 24 rfl rfl
theorem dX7_without_0 : decode cX7_without 0 = .ok (.aload_n 0, 1) := dk_42 (dk_at dksX7_without_0 0 rfl rfl)
theorem dX7_without_1 : decode cX7_without 1 = .ok (.iconst 0, 1) := dk_3 (dk_at dksX7_without_0 1 rfl rfl)
theorem dX7_without_2 : decode cX7_without 2 = .ok (.putfield 143, 3) := dk_181 0 143 (dk_at dksX7_without_0 2 rfl rfl)
theorem dX7_without_5 : decode cX7_without 5 = .ok (.aload_n 0, 1) := dk_42 (dk_at dksX7_without_0 5 rfl rfl)
theorem dX7_without_6 : decode cX7_without 6 = .ok (.iload_n 1, 1) := dk_27 (dk_at dksX7_without_0 6 rfl rfl)
theorem dX7_without_7 : decode cX7_without 7 = .ok (.invokevirtual 333, 3) := dk_182 1 77 (dk_at dksX7_without_0 7 rfl rfl)
theorem dX7_without_10 : decode cX7_without 10 = .ok (.ifCond .ne 9, 3) := dk_154 0 9 (dk_at dksX7_without_0 10 rfl rfl)
theorem dX7_without_13 : decode cX7_without 13 = .ok (.aload_n 0, 1) := dk_42 (dk_at dksX7_without_0 13 rfl rfl)
theorem dX7_without_14 : decode cX7_without 14 = .ok (.iconst 1, 1) := dk_4 (dk_at dksX7_without_0 14 rfl rfl)
theorem dX7_without_15 : decode cX7_without 15 = .ok (.invokevirtual 360, 3) := dk_182 1 104 (dk_at dksX7_without_0 15 rfl rfl)
theorem dX7_without_18 : decode cX7_without 18 = .ok (.ireturn, 1) := dk_172 (dk_at dksX7_without_0 18 rfl rfl)
theorem dX7_without_19 : decode cX7_without 19 = .ok (.aload_n 0, 1) := dk_42 (dk_at dksX7_without_0 19 rfl rfl)
theorem dX7_without_20 : decode cX7_without 20 = .ok (.iload_n 1, 1) := dk_27 (dk_at dksX7_without_0 20 rfl rfl)
theorem dX7_without_21 : decode cX7_without 21 = .ok (.invokevirtual 336, 3) := dk_182 1 80 (dk_at dksX7_without_0 21 rfl rfl)
theorem dX7_without_24 : decode cX7_without 24 = .ok (.iconst (-1), 1) := dk_2 (dk_at dksX7_without_1 0 rfl rfl)
theorem dX7_without_25 : decode cX7_without 25 = .ok (.if_icmp .ne 5, 3) := dk_160 0 5 (dk_at dksX7_without_1 1 rfl rfl)
theorem dX7_without_28 : decode cX7_without 28 = .ok (.iconst 0, 1) := dk_3 (dk_at dksX7_without_1 4 rfl rfl)
theorem dX7_without_29 : decode cX7_without 29 = .ok (.ireturn, 1) := dk_172 (dk_at dksX7_without_1 5 rfl rfl)
theorem dX7_without_30 : decode cX7_without 30 = .ok (.aload_n 0, 1) := dk_42 (dk_at dksX7_without_1 6 rfl rfl)
theorem dX7_without_31 : decode cX7_without 31 = .ok (.aload_n 0, 1) := dk_42 (dk_at dksX7_without_1 7 rfl rfl)
theorem dX7_without_32 : decode cX7_without 32 = .ok (.getfield 94, 3) := dk_180 0 94 (dk_at dksX7_without_1 8 rfl rfl)
theorem dX7_without_35 : decode cX7_without 35 = .ok (.iconst 0, 1) := dk_3 (dk_at dksX7_without_1 11 rfl rfl)
theorem dX7_without_36 : decode cX7_without 36 = .ok (.invokevirtual 347, 3) := dk_182 1 91 (dk_at dksX7_without_1 12 rfl rfl)
theorem dX7_without_39 : decode cX7_without 39 = .ok (.aload_n 0, 1) := dk_42 (dk_at dksX7_without_1 15 rfl rfl)
theorem dX7_without_40 : decode cX7_without 40 = .ok (.iload_n 1, 1) := dk_27 (dk_at dksX7_without_1 16 rfl rfl)
theorem dX7_without_41 : decode cX7_without 41 = .ok (.invokevirtual 357, 3) := dk_182 1 101 (dk_at dksX7_without_1 17 rfl rfl)
theorem dX7_without_44 : decode cX7_without 44 = .ok (.aload_n 0, 1) := dk_42 (dk_at dksX7_without_1 20 rfl rfl)
theorem dX7_without_45 : decode cX7_without 45 = .ok (.invokevirtual 326, 3) := dk_182 1 70 (dk_at dksX7_without_1 21 rfl rfl)
theorem dX7_without_48 : decode cX7_without 48 = .ok (.istore_n 2, 1) := dk_61 (dk_at dksX7_without_2 0 rfl rfl)
theorem dX7_without_49 : decode cX7_without 49 = .ok (.aload_n 0, 1) := dk_42 (dk_at dksX7_without_2 1 rfl rfl)
theorem dX7_without_50 : decode cX7_without 50 = .ok (.aload_n 0, 1) := dk_42 (dk_at dksX7_without_2 2 rfl rfl)
theorem dX7_without_51 : decode cX7_without 51 = .ok (.getfield 94, 3) := dk_180 0 94 (dk_at dksX7_without_2 3 rfl rfl)
theorem dX7_without_54 : decode cX7_without 54 = .ok (.iconst 0, 1) := dk_3 (dk_at dksX7_without_2 6 rfl rfl)
theorem dX7_without_55 : decode cX7_without 55 = .ok (.invokevirtual 386, 3) := dk_182 1 130 (dk_at dksX7_without_2 7 rfl rfl)
theorem dX7_without_58 : decode cX7_without 58 = .ok (.iload_n 2, 1) := dk_28 (dk_at dksX7_without_2 10 rfl rfl)
theorem dX7_without_59 : decode cX7_without 59 = .ok (.ireturn, 1) := dk_172 (dk_at dksX7_without_2 11 rfl rfl)
abbrev cX7_most : ByteArray := prog_20_method_76_code
def yX7_most : MethodName := ⟨RX7, "most", "(I)I"⟩
def dkwX7_most_1 : List UInt8 := [61, 27, 154, 0, 10, 28, 184, 1, 143, 167, 0, 4, 28, 172]
abbrev dktX7_most_1 : List UInt8 := dkwX7_most_1 ++ []
def dkwX7_most_0 : List UInt8 := [42, 3, 181, 0, 143, 27, 155, 0, 8, 27, 4, 164, 0, 9, 42, 4, 182, 1, 13, 172, 42, 182, 1, 159]
abbrev dktX7_most_0 : List UInt8 := dkwX7_most_0 ++ dktX7_most_1
theorem dksX7_most_0 : cX7_most.data.toList.drop 0 = dktX7_most_0 := by decide +kernel
theorem dksX7_most_1 : cX7_most.data.toList.drop 24 = dktX7_most_1 := dk_seg dksX7_most_0 24 rfl rfl
theorem dX7_most_0 : decode cX7_most 0 = .ok (.aload_n 0, 1) := dk_42 (dk_at dksX7_most_0 0 rfl rfl)
theorem dX7_most_1 : decode cX7_most 1 = .ok (.iconst 0, 1) := dk_3 (dk_at dksX7_most_0 1 rfl rfl)
theorem dX7_most_2 : decode cX7_most 2 = .ok (.putfield 143, 3) := dk_181 0 143 (dk_at dksX7_most_0 2 rfl rfl)
theorem dX7_most_5 : decode cX7_most 5 = .ok (.iload_n 1, 1) := dk_27 (dk_at dksX7_most_0 5 rfl rfl)
theorem dX7_most_6 : decode cX7_most 6 = .ok (.ifCond .lt 8, 3) := dk_155 0 8 (dk_at dksX7_most_0 6 rfl rfl)
theorem dX7_most_9 : decode cX7_most 9 = .ok (.iload_n 1, 1) := dk_27 (dk_at dksX7_most_0 9 rfl rfl)
theorem dX7_most_10 : decode cX7_most 10 = .ok (.iconst 1, 1) := dk_4 (dk_at dksX7_most_0 10 rfl rfl)
theorem dX7_most_11 : decode cX7_most 11 = .ok (.if_icmp .le 9, 3) := dk_164 0 9 (dk_at dksX7_most_0 11 rfl rfl)
theorem dX7_most_14 : decode cX7_most 14 = .ok (.aload_n 0, 1) := dk_42 (dk_at dksX7_most_0 14 rfl rfl)
theorem dX7_most_15 : decode cX7_most 15 = .ok (.iconst 1, 1) := dk_4 (dk_at dksX7_most_0 15 rfl rfl)
theorem dX7_most_16 : decode cX7_most 16 = .ok (.invokevirtual 269, 3) := dk_182 1 13 (dk_at dksX7_most_0 16 rfl rfl)
theorem dX7_most_19 : decode cX7_most 19 = .ok (.ireturn, 1) := dk_172 (dk_at dksX7_most_0 19 rfl rfl)
theorem dX7_most_20 : decode cX7_most 20 = .ok (.aload_n 0, 1) := dk_42 (dk_at dksX7_most_0 20 rfl rfl)
theorem dX7_most_21 : decode cX7_most 21 = .ok (.invokevirtual 415, 3) := dk_182 1 159 (dk_at dksX7_most_0 21 rfl rfl)
theorem dX7_most_24 : decode cX7_most 24 = .ok (.istore_n 2, 1) := dk_61 (dk_at dksX7_most_1 0 rfl rfl)
theorem dX7_most_25 : decode cX7_most 25 = .ok (.iload_n 1, 1) := dk_27 (dk_at dksX7_most_1 1 rfl rfl)
theorem dX7_most_26 : decode cX7_most 26 = .ok (.ifCond .ne 10, 3) := dk_154 0 10 (dk_at dksX7_most_1 2 rfl rfl)
theorem dX7_most_29 : decode cX7_most 29 = .ok (.iload_n 2, 1) := dk_28 (dk_at dksX7_most_1 5 rfl rfl)
theorem dX7_most_30 : decode cX7_most 30 = .ok (.invokestatic 399, 3) := dk_184 1 143 (dk_at dksX7_most_1 6 rfl rfl)
theorem dX7_most_33 : decode cX7_most 33 = .ok (.goto 4, 3) := dk_167 0 4 (dk_at dksX7_most_1 9 rfl rfl)
theorem dX7_most_36 : decode cX7_most 36 = .ok (.iload_n 2, 1) := dk_28 (dk_at dksX7_most_1 12 rfl rfl)
theorem dX7_most_37 : decode cX7_most 37 = .ok (.ireturn, 1) := dk_172 (dk_at dksX7_most_1 13 rfl rfl)
abbrev cX7_mostSet : ByteArray := prog_20_method_75_code
def yX7_mostSet : MethodName := ⟨RX7, "mostSet", "()I"⟩
def dkwX7_mostSet_2 : List UInt8 := [180, 0, 103, 3, 47, 9, 148, 158, 0, 5, 28, 60, 132, 2, 1, 167, 255, 209, 27, 172]
abbrev dktX7_mostSet_2 : List UInt8 := dkwX7_mostSet_2 ++ []
def dkwX7_mostSet_1 : List UInt8 := [162, 0, 41, 28, 184, 1, 143, 27, 184, 1, 143, 163, 0, 6, 167, 0, 21, 42, 28, 182, 1, 156, 42]
abbrev dktX7_mostSet_1 : List UInt8 := dkwX7_mostSet_1 ++ dktX7_mostSet_2
def dkwX7_mostSet_0 : List UInt8 := [42, 3, 181, 1, 136, 42, 182, 1, 153, 3, 60, 4, 61, 28, 4, 42, 180, 0, 42, 3, 46, 120]
abbrev dktX7_mostSet_0 : List UInt8 := dkwX7_mostSet_0 ++ dktX7_mostSet_1
theorem dksX7_mostSet_0 : cX7_mostSet.data.toList.drop 0 = dktX7_mostSet_0 := by decide +kernel
theorem dksX7_mostSet_1 : cX7_mostSet.data.toList.drop 22 = dktX7_mostSet_1 := dk_seg dksX7_mostSet_0 22 rfl rfl
theorem dksX7_mostSet_2 : cX7_mostSet.data.toList.drop 45 = dktX7_mostSet_2 := dk_seg dksX7_mostSet_1 23 rfl rfl
theorem dX7_mostSet_0 : decode cX7_mostSet 0 = .ok (.aload_n 0, 1) := dk_42 (dk_at dksX7_mostSet_0 0 rfl rfl)
theorem dX7_mostSet_1 : decode cX7_mostSet 1 = .ok (.iconst 0, 1) := dk_3 (dk_at dksX7_mostSet_0 1 rfl rfl)
theorem dX7_mostSet_2 : decode cX7_mostSet 2 = .ok (.putfield 392, 3) := dk_181 1 136 (dk_at dksX7_mostSet_0 2 rfl rfl)
theorem dX7_mostSet_5 : decode cX7_mostSet 5 = .ok (.aload_n 0, 1) := dk_42 (dk_at dksX7_mostSet_0 5 rfl rfl)
theorem dX7_mostSet_6 : decode cX7_mostSet 6 = .ok (.invokevirtual 409, 3) := dk_182 1 153 (dk_at dksX7_mostSet_0 6 rfl rfl)
theorem dX7_mostSet_9 : decode cX7_mostSet 9 = .ok (.iconst 0, 1) := dk_3 (dk_at dksX7_mostSet_0 9 rfl rfl)
theorem dX7_mostSet_10 : decode cX7_mostSet 10 = .ok (.istore_n 1, 1) := dk_60 (dk_at dksX7_mostSet_0 10 rfl rfl)
theorem dX7_mostSet_11 : decode cX7_mostSet 11 = .ok (.iconst 1, 1) := dk_4 (dk_at dksX7_mostSet_0 11 rfl rfl)
theorem dX7_mostSet_12 : decode cX7_mostSet 12 = .ok (.istore_n 2, 1) := dk_61 (dk_at dksX7_mostSet_0 12 rfl rfl)
theorem dX7_mostSet_13 : decode cX7_mostSet 13 = .ok (.iload_n 2, 1) := dk_28 (dk_at dksX7_mostSet_0 13 rfl rfl)
theorem dX7_mostSet_14 : decode cX7_mostSet 14 = .ok (.iconst 1, 1) := dk_4 (dk_at dksX7_mostSet_0 14 rfl rfl)
theorem dX7_mostSet_15 : decode cX7_mostSet 15 = .ok (.aload_n 0, 1) := dk_42 (dk_at dksX7_mostSet_0 15 rfl rfl)
theorem dX7_mostSet_16 : decode cX7_mostSet 16 = .ok (.getfield 42, 3) := dk_180 0 42 (dk_at dksX7_mostSet_0 16 rfl rfl)
theorem dX7_mostSet_19 : decode cX7_mostSet 19 = .ok (.iconst 0, 1) := dk_3 (dk_at dksX7_mostSet_0 19 rfl rfl)
theorem dX7_mostSet_20 : decode cX7_mostSet 20 = .ok (.iaload, 1) := dk_46 (dk_at dksX7_mostSet_0 20 rfl rfl)
theorem dX7_mostSet_21 : decode cX7_mostSet 21 = .ok (.ishl, 1) := dk_120 (dk_at dksX7_mostSet_0 21 rfl rfl)
theorem dX7_mostSet_22 : decode cX7_mostSet 22 = .ok (.if_icmp .ge 41, 3) := dk_162 0 41 (dk_at dksX7_mostSet_1 0 rfl rfl)
theorem dX7_mostSet_25 : decode cX7_mostSet 25 = .ok (.iload_n 2, 1) := dk_28 (dk_at dksX7_mostSet_1 3 rfl rfl)
theorem dX7_mostSet_26 : decode cX7_mostSet 26 = .ok (.invokestatic 399, 3) := dk_184 1 143 (dk_at dksX7_mostSet_1 4 rfl rfl)
theorem dX7_mostSet_29 : decode cX7_mostSet 29 = .ok (.iload_n 1, 1) := dk_27 (dk_at dksX7_mostSet_1 7 rfl rfl)
theorem dX7_mostSet_30 : decode cX7_mostSet 30 = .ok (.invokestatic 399, 3) := dk_184 1 143 (dk_at dksX7_mostSet_1 8 rfl rfl)
theorem dX7_mostSet_33 : decode cX7_mostSet 33 = .ok (.if_icmp .gt 6, 3) := dk_163 0 6 (dk_at dksX7_mostSet_1 11 rfl rfl)
theorem dX7_mostSet_36 : decode cX7_mostSet 36 = .ok (.goto 21, 3) := dk_167 0 21 (dk_at dksX7_mostSet_1 14 rfl rfl)
theorem dX7_mostSet_39 : decode cX7_mostSet 39 = .ok (.aload_n 0, 1) := dk_42 (dk_at dksX7_mostSet_1 17 rfl rfl)
theorem dX7_mostSet_40 : decode cX7_mostSet 40 = .ok (.iload_n 2, 1) := dk_28 (dk_at dksX7_mostSet_1 18 rfl rfl)
theorem dX7_mostSet_41 : decode cX7_mostSet 41 = .ok (.invokevirtual 412, 3) := dk_182 1 156 (dk_at dksX7_mostSet_1 19 rfl rfl)
theorem dX7_mostSet_44 : decode cX7_mostSet 44 = .ok (.aload_n 0, 1) := dk_42 (dk_at dksX7_mostSet_1 22 rfl rfl)
theorem dX7_mostSet_45 : decode cX7_mostSet 45 = .ok (.getfield 103, 3) := dk_180 0 103 (dk_at dksX7_mostSet_2 0 rfl rfl)
theorem dX7_mostSet_48 : decode cX7_mostSet 48 = .ok (.iconst 0, 1) := dk_3 (dk_at dksX7_mostSet_2 3 rfl rfl)
theorem dX7_mostSet_49 : decode cX7_mostSet 49 = .ok (.laload, 1) := dk_47 (dk_at dksX7_mostSet_2 4 rfl rfl)
theorem dX7_mostSet_50 : decode cX7_mostSet 50 = .ok (.lconst 0, 1) := dk_9 (dk_at dksX7_mostSet_2 5 rfl rfl)
theorem dX7_mostSet_51 : decode cX7_mostSet 51 = .ok (.lcmp, 1) := dk_148 (dk_at dksX7_mostSet_2 6 rfl rfl)
theorem dX7_mostSet_52 : decode cX7_mostSet 52 = .ok (.ifCond .le 5, 3) := dk_158 0 5 (dk_at dksX7_mostSet_2 7 rfl rfl)
theorem dX7_mostSet_55 : decode cX7_mostSet 55 = .ok (.iload_n 2, 1) := dk_28 (dk_at dksX7_mostSet_2 10 rfl rfl)
theorem dX7_mostSet_56 : decode cX7_mostSet 56 = .ok (.istore_n 1, 1) := dk_60 (dk_at dksX7_mostSet_2 11 rfl rfl)
theorem dX7_mostSet_57 : decode cX7_mostSet 57 = .ok (.iinc 2 1, 3) := dk_132 2 1 (dk_at dksX7_mostSet_2 12 rfl rfl)
theorem dX7_mostSet_60 : decode cX7_mostSet 60 = .ok (.goto (-47), 3) := dk_167 255 209 (dk_at dksX7_mostSet_2 15 rfl rfl)
theorem dX7_mostSet_63 : decode cX7_mostSet 63 = .ok (.iload_n 1, 1) := dk_27 (dk_at dksX7_mostSet_2 18 rfl rfl)
theorem dX7_mostSet_64 : decode cX7_mostSet 64 = .ok (.ireturn, 1) := dk_172 (dk_at dksX7_mostSet_2 19 rfl rfl)
abbrev cX7_tellSums : ByteArray := prog_20_method_71_code
def yX7_tellSums : MethodName := ⟨RX7, "tellSums", "()V"⟩
def dkwX7_tellSums_4 : List UInt8 := [132, 1, 1, 167, 255, 176, 177]
abbrev dktX7_tellSums_4 : List UInt8 := dkwX7_tellSums_4 ++ []
def dkwX7_tellSums_3 : List UInt8 := [28, 4, 27, 120, 128, 42, 180, 0, 100, 28, 46, 42, 27, 182, 1, 49, 96, 79, 132, 2, 1, 167, 255, 194]
abbrev dktX7_tellSums_3 : List UInt8 := dkwX7_tellSums_3 ++ dktX7_tellSums_4
def dkwX7_tellSums_2 : List UInt8 := [180, 0, 97, 28, 46, 42, 180, 0, 47, 27, 46, 96, 42, 180, 0, 73, 27, 46, 96, 79, 42, 180, 0, 100]
abbrev dktX7_tellSums_2 : List UInt8 := dkwX7_tellSums_2 ++ dktX7_tellSums_3
def dkwX7_tellSums_1 : List UInt8 := [162, 0, 76, 3, 61, 28, 4, 27, 120, 162, 0, 61, 42, 180, 0, 97, 28, 4, 27, 120, 128, 42]
abbrev dktX7_tellSums_1 : List UInt8 := dkwX7_tellSums_1 ++ dktX7_tellSums_2
def dkwX7_tellSums_0 : List UInt8 := [42, 180, 0, 97, 3, 3, 79, 42, 180, 0, 100, 3, 3, 79, 3, 60, 27, 42, 180, 0, 42, 3, 46]
abbrev dktX7_tellSums_0 : List UInt8 := dkwX7_tellSums_0 ++ dktX7_tellSums_1
theorem dksX7_tellSums_0 : cX7_tellSums.data.toList.drop 0 = dktX7_tellSums_0 := by decide +kernel
theorem dksX7_tellSums_1 : cX7_tellSums.data.toList.drop 23 = dktX7_tellSums_1 := dk_seg dksX7_tellSums_0 23 rfl rfl
theorem dksX7_tellSums_2 : cX7_tellSums.data.toList.drop 45 = dktX7_tellSums_2 := dk_seg dksX7_tellSums_1 22 rfl rfl
theorem dksX7_tellSums_3 : cX7_tellSums.data.toList.drop 69 = dktX7_tellSums_3 := dk_seg dksX7_tellSums_2 24 rfl rfl
theorem dksX7_tellSums_4 : cX7_tellSums.data.toList.drop 93 = dktX7_tellSums_4 := dk_seg dksX7_tellSums_3 24 rfl rfl
theorem dX7_tellSums_0 : decode cX7_tellSums 0 = .ok (.aload_n 0, 1) := dk_42 (dk_at dksX7_tellSums_0 0 rfl rfl)
theorem dX7_tellSums_1 : decode cX7_tellSums 1 = .ok (.getfield 97, 3) := dk_180 0 97 (dk_at dksX7_tellSums_0 1 rfl rfl)
theorem dX7_tellSums_4 : decode cX7_tellSums 4 = .ok (.iconst 0, 1) := dk_3 (dk_at dksX7_tellSums_0 4 rfl rfl)
theorem dX7_tellSums_5 : decode cX7_tellSums 5 = .ok (.iconst 0, 1) := dk_3 (dk_at dksX7_tellSums_0 5 rfl rfl)
theorem dX7_tellSums_6 : decode cX7_tellSums 6 = .ok (.iastore, 1) := dk_79 (dk_at dksX7_tellSums_0 6 rfl rfl)
theorem dX7_tellSums_7 : decode cX7_tellSums 7 = .ok (.aload_n 0, 1) := dk_42 (dk_at dksX7_tellSums_0 7 rfl rfl)
theorem dX7_tellSums_8 : decode cX7_tellSums 8 = .ok (.getfield 100, 3) := dk_180 0 100 (dk_at dksX7_tellSums_0 8 rfl rfl)
theorem dX7_tellSums_11 : decode cX7_tellSums 11 = .ok (.iconst 0, 1) := dk_3 (dk_at dksX7_tellSums_0 11 rfl rfl)
theorem dX7_tellSums_12 : decode cX7_tellSums 12 = .ok (.iconst 0, 1) := dk_3 (dk_at dksX7_tellSums_0 12 rfl rfl)
theorem dX7_tellSums_13 : decode cX7_tellSums 13 = .ok (.iastore, 1) := dk_79 (dk_at dksX7_tellSums_0 13 rfl rfl)
theorem dX7_tellSums_14 : decode cX7_tellSums 14 = .ok (.iconst 0, 1) := dk_3 (dk_at dksX7_tellSums_0 14 rfl rfl)
theorem dX7_tellSums_15 : decode cX7_tellSums 15 = .ok (.istore_n 1, 1) := dk_60 (dk_at dksX7_tellSums_0 15 rfl rfl)
theorem dX7_tellSums_16 : decode cX7_tellSums 16 = .ok (.iload_n 1, 1) := dk_27 (dk_at dksX7_tellSums_0 16 rfl rfl)
theorem dX7_tellSums_17 : decode cX7_tellSums 17 = .ok (.aload_n 0, 1) := dk_42 (dk_at dksX7_tellSums_0 17 rfl rfl)
theorem dX7_tellSums_18 : decode cX7_tellSums 18 = .ok (.getfield 42, 3) := dk_180 0 42 (dk_at dksX7_tellSums_0 18 rfl rfl)
theorem dX7_tellSums_21 : decode cX7_tellSums 21 = .ok (.iconst 0, 1) := dk_3 (dk_at dksX7_tellSums_0 21 rfl rfl)
theorem dX7_tellSums_22 : decode cX7_tellSums 22 = .ok (.iaload, 1) := dk_46 (dk_at dksX7_tellSums_0 22 rfl rfl)
theorem dX7_tellSums_23 : decode cX7_tellSums 23 = .ok (.if_icmp .ge 76, 3) := dk_162 0 76 (dk_at dksX7_tellSums_1 0 rfl rfl)
theorem dX7_tellSums_26 : decode cX7_tellSums 26 = .ok (.iconst 0, 1) := dk_3 (dk_at dksX7_tellSums_1 3 rfl rfl)
theorem dX7_tellSums_27 : decode cX7_tellSums 27 = .ok (.istore_n 2, 1) := dk_61 (dk_at dksX7_tellSums_1 4 rfl rfl)
theorem dX7_tellSums_28 : decode cX7_tellSums 28 = .ok (.iload_n 2, 1) := dk_28 (dk_at dksX7_tellSums_1 5 rfl rfl)
theorem dX7_tellSums_29 : decode cX7_tellSums 29 = .ok (.iconst 1, 1) := dk_4 (dk_at dksX7_tellSums_1 6 rfl rfl)
theorem dX7_tellSums_30 : decode cX7_tellSums 30 = .ok (.iload_n 1, 1) := dk_27 (dk_at dksX7_tellSums_1 7 rfl rfl)
theorem dX7_tellSums_31 : decode cX7_tellSums 31 = .ok (.ishl, 1) := dk_120 (dk_at dksX7_tellSums_1 8 rfl rfl)
theorem dX7_tellSums_32 : decode cX7_tellSums 32 = .ok (.if_icmp .ge 61, 3) := dk_162 0 61 (dk_at dksX7_tellSums_1 9 rfl rfl)
theorem dX7_tellSums_35 : decode cX7_tellSums 35 = .ok (.aload_n 0, 1) := dk_42 (dk_at dksX7_tellSums_1 12 rfl rfl)
theorem dX7_tellSums_36 : decode cX7_tellSums 36 = .ok (.getfield 97, 3) := dk_180 0 97 (dk_at dksX7_tellSums_1 13 rfl rfl)
theorem dX7_tellSums_39 : decode cX7_tellSums 39 = .ok (.iload_n 2, 1) := dk_28 (dk_at dksX7_tellSums_1 16 rfl rfl)
theorem dX7_tellSums_40 : decode cX7_tellSums 40 = .ok (.iconst 1, 1) := dk_4 (dk_at dksX7_tellSums_1 17 rfl rfl)
theorem dX7_tellSums_41 : decode cX7_tellSums 41 = .ok (.iload_n 1, 1) := dk_27 (dk_at dksX7_tellSums_1 18 rfl rfl)
theorem dX7_tellSums_42 : decode cX7_tellSums 42 = .ok (.ishl, 1) := dk_120 (dk_at dksX7_tellSums_1 19 rfl rfl)
theorem dX7_tellSums_43 : decode cX7_tellSums 43 = .ok (.ior, 1) := dk_128 (dk_at dksX7_tellSums_1 20 rfl rfl)
theorem dX7_tellSums_44 : decode cX7_tellSums 44 = .ok (.aload_n 0, 1) := dk_42 (dk_at dksX7_tellSums_1 21 rfl rfl)
theorem dX7_tellSums_45 : decode cX7_tellSums 45 = .ok (.getfield 97, 3) := dk_180 0 97 (dk_at dksX7_tellSums_2 0 rfl rfl)
theorem dX7_tellSums_48 : decode cX7_tellSums 48 = .ok (.iload_n 2, 1) := dk_28 (dk_at dksX7_tellSums_2 3 rfl rfl)
theorem dX7_tellSums_49 : decode cX7_tellSums 49 = .ok (.iaload, 1) := dk_46 (dk_at dksX7_tellSums_2 4 rfl rfl)
theorem dX7_tellSums_50 : decode cX7_tellSums 50 = .ok (.aload_n 0, 1) := dk_42 (dk_at dksX7_tellSums_2 5 rfl rfl)
theorem dX7_tellSums_51 : decode cX7_tellSums 51 = .ok (.getfield 47, 3) := dk_180 0 47 (dk_at dksX7_tellSums_2 6 rfl rfl)
theorem dX7_tellSums_54 : decode cX7_tellSums 54 = .ok (.iload_n 1, 1) := dk_27 (dk_at dksX7_tellSums_2 9 rfl rfl)
theorem dX7_tellSums_55 : decode cX7_tellSums 55 = .ok (.iaload, 1) := dk_46 (dk_at dksX7_tellSums_2 10 rfl rfl)
theorem dX7_tellSums_56 : decode cX7_tellSums 56 = .ok (.iadd, 1) := dk_96 (dk_at dksX7_tellSums_2 11 rfl rfl)
theorem dX7_tellSums_57 : decode cX7_tellSums 57 = .ok (.aload_n 0, 1) := dk_42 (dk_at dksX7_tellSums_2 12 rfl rfl)
theorem dX7_tellSums_58 : decode cX7_tellSums 58 = .ok (.getfield 73, 3) := dk_180 0 73 (dk_at dksX7_tellSums_2 13 rfl rfl)
theorem dX7_tellSums_61 : decode cX7_tellSums 61 = .ok (.iload_n 1, 1) := dk_27 (dk_at dksX7_tellSums_2 16 rfl rfl)
theorem dX7_tellSums_62 : decode cX7_tellSums 62 = .ok (.iaload, 1) := dk_46 (dk_at dksX7_tellSums_2 17 rfl rfl)
theorem dX7_tellSums_63 : decode cX7_tellSums 63 = .ok (.iadd, 1) := dk_96 (dk_at dksX7_tellSums_2 18 rfl rfl)
theorem dX7_tellSums_64 : decode cX7_tellSums 64 = .ok (.iastore, 1) := dk_79 (dk_at dksX7_tellSums_2 19 rfl rfl)
theorem dX7_tellSums_65 : decode cX7_tellSums 65 = .ok (.aload_n 0, 1) := dk_42 (dk_at dksX7_tellSums_2 20 rfl rfl)
theorem dX7_tellSums_66 : decode cX7_tellSums 66 = .ok (.getfield 100, 3) := dk_180 0 100 (dk_at dksX7_tellSums_2 21 rfl rfl)
theorem dX7_tellSums_69 : decode cX7_tellSums 69 = .ok (.iload_n 2, 1) := dk_28 (dk_at dksX7_tellSums_3 0 rfl rfl)
theorem dX7_tellSums_70 : decode cX7_tellSums 70 = .ok (.iconst 1, 1) := dk_4 (dk_at dksX7_tellSums_3 1 rfl rfl)
theorem dX7_tellSums_71 : decode cX7_tellSums 71 = .ok (.iload_n 1, 1) := dk_27 (dk_at dksX7_tellSums_3 2 rfl rfl)
theorem dX7_tellSums_72 : decode cX7_tellSums 72 = .ok (.ishl, 1) := dk_120 (dk_at dksX7_tellSums_3 3 rfl rfl)
theorem dX7_tellSums_73 : decode cX7_tellSums 73 = .ok (.ior, 1) := dk_128 (dk_at dksX7_tellSums_3 4 rfl rfl)
theorem dX7_tellSums_74 : decode cX7_tellSums 74 = .ok (.aload_n 0, 1) := dk_42 (dk_at dksX7_tellSums_3 5 rfl rfl)
theorem dX7_tellSums_75 : decode cX7_tellSums 75 = .ok (.getfield 100, 3) := dk_180 0 100 (dk_at dksX7_tellSums_3 6 rfl rfl)
theorem dX7_tellSums_78 : decode cX7_tellSums 78 = .ok (.iload_n 2, 1) := dk_28 (dk_at dksX7_tellSums_3 9 rfl rfl)
theorem dX7_tellSums_79 : decode cX7_tellSums 79 = .ok (.iaload, 1) := dk_46 (dk_at dksX7_tellSums_3 10 rfl rfl)
theorem dX7_tellSums_80 : decode cX7_tellSums 80 = .ok (.aload_n 0, 1) := dk_42 (dk_at dksX7_tellSums_3 11 rfl rfl)
theorem dX7_tellSums_81 : decode cX7_tellSums 81 = .ok (.iload_n 1, 1) := dk_27 (dk_at dksX7_tellSums_3 12 rfl rfl)
theorem dX7_tellSums_82 : decode cX7_tellSums 82 = .ok (.invokevirtual 305, 3) := dk_182 1 49 (dk_at dksX7_tellSums_3 13 rfl rfl)
theorem dX7_tellSums_85 : decode cX7_tellSums 85 = .ok (.iadd, 1) := dk_96 (dk_at dksX7_tellSums_3 16 rfl rfl)
theorem dX7_tellSums_86 : decode cX7_tellSums 86 = .ok (.iastore, 1) := dk_79 (dk_at dksX7_tellSums_3 17 rfl rfl)
theorem dX7_tellSums_87 : decode cX7_tellSums 87 = .ok (.iinc 2 1, 3) := dk_132 2 1 (dk_at dksX7_tellSums_3 18 rfl rfl)
theorem dX7_tellSums_90 : decode cX7_tellSums 90 = .ok (.goto (-62), 3) := dk_167 255 194 (dk_at dksX7_tellSums_3 21 rfl rfl)
theorem dX7_tellSums_93 : decode cX7_tellSums 93 = .ok (.iinc 1 1, 3) := dk_132 1 1 (dk_at dksX7_tellSums_4 0 rfl rfl)
theorem dX7_tellSums_96 : decode cX7_tellSums 96 = .ok (.goto (-80), 3) := dk_167 255 176 (dk_at dksX7_tellSums_4 3 rfl rfl)
theorem dX7_tellSums_99 : decode cX7_tellSums 99 = .ok (.return_, 1) := dk_177 (dk_at dksX7_tellSums_4 6 rfl rfl)
abbrev cX7_bitsOf : ByteArray := prog_20_method_72_code
def yX7_bitsOf : MethodName := ⟨RX7, "bitsOf", "(I)I"⟩
def dkwX7_bitsOf_0 : List UInt8 := [3, 60, 26, 61, 28, 153, 0, 15, 132, 1, 1, 28, 28, 4, 100, 126, 61, 167, 255, 243, 27, 172]
abbrev dktX7_bitsOf_0 : List UInt8 := dkwX7_bitsOf_0 ++ []
theorem dksX7_bitsOf_0 : cX7_bitsOf.data.toList.drop 0 = dktX7_bitsOf_0 := by decide +kernel
theorem dX7_bitsOf_0 : decode cX7_bitsOf 0 = .ok (.iconst 0, 1) := dk_3 (dk_at dksX7_bitsOf_0 0 rfl rfl)
theorem dX7_bitsOf_1 : decode cX7_bitsOf 1 = .ok (.istore_n 1, 1) := dk_60 (dk_at dksX7_bitsOf_0 1 rfl rfl)
theorem dX7_bitsOf_2 : decode cX7_bitsOf 2 = .ok (.iload_n 0, 1) := dk_26 (dk_at dksX7_bitsOf_0 2 rfl rfl)
theorem dX7_bitsOf_3 : decode cX7_bitsOf 3 = .ok (.istore_n 2, 1) := dk_61 (dk_at dksX7_bitsOf_0 3 rfl rfl)
theorem dX7_bitsOf_4 : decode cX7_bitsOf 4 = .ok (.iload_n 2, 1) := dk_28 (dk_at dksX7_bitsOf_0 4 rfl rfl)
theorem dX7_bitsOf_5 : decode cX7_bitsOf 5 = .ok (.ifCond .eq 15, 3) := dk_153 0 15 (dk_at dksX7_bitsOf_0 5 rfl rfl)
theorem dX7_bitsOf_8 : decode cX7_bitsOf 8 = .ok (.iinc 1 1, 3) := dk_132 1 1 (dk_at dksX7_bitsOf_0 8 rfl rfl)
theorem dX7_bitsOf_11 : decode cX7_bitsOf 11 = .ok (.iload_n 2, 1) := dk_28 (dk_at dksX7_bitsOf_0 11 rfl rfl)
theorem dX7_bitsOf_12 : decode cX7_bitsOf 12 = .ok (.iload_n 2, 1) := dk_28 (dk_at dksX7_bitsOf_0 12 rfl rfl)
theorem dX7_bitsOf_13 : decode cX7_bitsOf 13 = .ok (.iconst 1, 1) := dk_4 (dk_at dksX7_bitsOf_0 13 rfl rfl)
theorem dX7_bitsOf_14 : decode cX7_bitsOf 14 = .ok (.isub, 1) := dk_100 (dk_at dksX7_bitsOf_0 14 rfl rfl)
theorem dX7_bitsOf_15 : decode cX7_bitsOf 15 = .ok (.iand, 1) := dk_126 (dk_at dksX7_bitsOf_0 15 rfl rfl)
theorem dX7_bitsOf_16 : decode cX7_bitsOf 16 = .ok (.istore_n 2, 1) := dk_61 (dk_at dksX7_bitsOf_0 16 rfl rfl)
theorem dX7_bitsOf_17 : decode cX7_bitsOf 17 = .ok (.goto (-13), 3) := dk_167 255 243 (dk_at dksX7_bitsOf_0 17 rfl rfl)
theorem dX7_bitsOf_20 : decode cX7_bitsOf 20 = .ok (.iload_n 1, 1) := dk_27 (dk_at dksX7_bitsOf_0 20 rfl rfl)
theorem dX7_bitsOf_21 : decode cX7_bitsOf 21 = .ok (.ireturn, 1) := dk_172 (dk_at dksX7_bitsOf_0 21 rfl rfl)
abbrev cX7_tellWays : ByteArray := prog_20_method_74_code
def yX7_tellWays : MethodName := ⟨RX7, "tellWays", "(I)V"⟩
def dkwX7_tellWays_4 : List UInt8 := [80, 132, 3, 1, 167, 255, 187, 167, 255, 165, 177]
abbrev dktX7_tellWays_4 : List UInt8 := dkwX7_tellWays_4 ++ []
def dkwX7_tellWays_3 : List UInt8 := [182, 1, 149, 153, 0, 22, 42, 180, 0, 103, 28, 92, 47, 42, 180, 0, 103, 28, 4, 29, 120, 128, 47, 97]
abbrev dktX7_tellWays_3 : List UInt8 := dkwX7_tellWays_3 ++ dktX7_tellWays_4
def dkwX7_tellWays_2 : List UInt8 := [153, 0, 47, 42, 180, 0, 103, 28, 4, 29, 120, 128, 47, 9, 148, 158, 0, 32, 42, 28, 29, 27]
abbrev dktX7_tellWays_2 : List UInt8 := dkwX7_tellWays_2 ++ dktX7_tellWays_3
def dkwX7_tellWays_1 : List UInt8 := [9, 80, 3, 62, 29, 42, 180, 0, 42, 3, 46, 162, 0, 65, 27, 28, 2, 130, 126, 29, 184, 1, 139]
abbrev dktX7_tellWays_1 : List UInt8 := dkwX7_tellWays_1 ++ dktX7_tellWays_2
def dkwX7_tellWays_0 : List UInt8 := [42, 180, 0, 103, 27, 10, 80, 27, 61, 28, 153, 0, 93, 28, 4, 100, 27, 126, 61, 42, 180, 0, 103, 28]
abbrev dktX7_tellWays_0 : List UInt8 := dkwX7_tellWays_0 ++ dktX7_tellWays_1
theorem dksX7_tellWays_0 : cX7_tellWays.data.toList.drop 0 = dktX7_tellWays_0 := by decide +kernel
theorem dksX7_tellWays_1 : cX7_tellWays.data.toList.drop 24 = dktX7_tellWays_1 := dk_seg dksX7_tellWays_0 24 rfl rfl
theorem dksX7_tellWays_2 : cX7_tellWays.data.toList.drop 47 = dktX7_tellWays_2 := dk_seg dksX7_tellWays_1 23 rfl rfl
theorem dksX7_tellWays_3 : cX7_tellWays.data.toList.drop 69 = dktX7_tellWays_3 := dk_seg dksX7_tellWays_2 22 rfl rfl
theorem dksX7_tellWays_4 : cX7_tellWays.data.toList.drop 93 = dktX7_tellWays_4 := dk_seg dksX7_tellWays_3 24 rfl rfl
theorem dX7_tellWays_0 : decode cX7_tellWays 0 = .ok (.aload_n 0, 1) := dk_42 (dk_at dksX7_tellWays_0 0 rfl rfl)
theorem dX7_tellWays_1 : decode cX7_tellWays 1 = .ok (.getfield 103, 3) := dk_180 0 103 (dk_at dksX7_tellWays_0 1 rfl rfl)
theorem dX7_tellWays_4 : decode cX7_tellWays 4 = .ok (.iload_n 1, 1) := dk_27 (dk_at dksX7_tellWays_0 4 rfl rfl)
theorem dX7_tellWays_5 : decode cX7_tellWays 5 = .ok (.lconst 1, 1) := dk_10 (dk_at dksX7_tellWays_0 5 rfl rfl)
theorem dX7_tellWays_6 : decode cX7_tellWays 6 = .ok (.lastore, 1) := dk_80 (dk_at dksX7_tellWays_0 6 rfl rfl)
theorem dX7_tellWays_7 : decode cX7_tellWays 7 = .ok (.iload_n 1, 1) := dk_27 (dk_at dksX7_tellWays_0 7 rfl rfl)
theorem dX7_tellWays_8 : decode cX7_tellWays 8 = .ok (.istore_n 2, 1) := dk_61 (dk_at dksX7_tellWays_0 8 rfl rfl)
theorem dX7_tellWays_9 : decode cX7_tellWays 9 = .ok (.iload_n 2, 1) := dk_28 (dk_at dksX7_tellWays_0 9 rfl rfl)
theorem dX7_tellWays_10 : decode cX7_tellWays 10 = .ok (.ifCond .eq 93, 3) := dk_153 0 93 (dk_at dksX7_tellWays_0 10 rfl rfl)
theorem dX7_tellWays_13 : decode cX7_tellWays 13 = .ok (.iload_n 2, 1) := dk_28 (dk_at dksX7_tellWays_0 13 rfl rfl)
theorem dX7_tellWays_14 : decode cX7_tellWays 14 = .ok (.iconst 1, 1) := dk_4 (dk_at dksX7_tellWays_0 14 rfl rfl)
theorem dX7_tellWays_15 : decode cX7_tellWays 15 = .ok (.isub, 1) := dk_100 (dk_at dksX7_tellWays_0 15 rfl rfl)
theorem dX7_tellWays_16 : decode cX7_tellWays 16 = .ok (.iload_n 1, 1) := dk_27 (dk_at dksX7_tellWays_0 16 rfl rfl)
theorem dX7_tellWays_17 : decode cX7_tellWays 17 = .ok (.iand, 1) := dk_126 (dk_at dksX7_tellWays_0 17 rfl rfl)
theorem dX7_tellWays_18 : decode cX7_tellWays 18 = .ok (.istore_n 2, 1) := dk_61 (dk_at dksX7_tellWays_0 18 rfl rfl)
theorem dX7_tellWays_19 : decode cX7_tellWays 19 = .ok (.aload_n 0, 1) := dk_42 (dk_at dksX7_tellWays_0 19 rfl rfl)
theorem dX7_tellWays_20 : decode cX7_tellWays 20 = .ok (.getfield 103, 3) := dk_180 0 103 (dk_at dksX7_tellWays_0 20 rfl rfl)
theorem dX7_tellWays_23 : decode cX7_tellWays 23 = .ok (.iload_n 2, 1) := dk_28 (dk_at dksX7_tellWays_0 23 rfl rfl)
theorem dX7_tellWays_24 : decode cX7_tellWays 24 = .ok (.lconst 0, 1) := dk_9 (dk_at dksX7_tellWays_1 0 rfl rfl)
theorem dX7_tellWays_25 : decode cX7_tellWays 25 = .ok (.lastore, 1) := dk_80 (dk_at dksX7_tellWays_1 1 rfl rfl)
theorem dX7_tellWays_26 : decode cX7_tellWays 26 = .ok (.iconst 0, 1) := dk_3 (dk_at dksX7_tellWays_1 2 rfl rfl)
theorem dX7_tellWays_27 : decode cX7_tellWays 27 = .ok (.istore_n 3, 1) := dk_62 (dk_at dksX7_tellWays_1 3 rfl rfl)
theorem dX7_tellWays_28 : decode cX7_tellWays 28 = .ok (.iload_n 3, 1) := dk_29 (dk_at dksX7_tellWays_1 4 rfl rfl)
theorem dX7_tellWays_29 : decode cX7_tellWays 29 = .ok (.aload_n 0, 1) := dk_42 (dk_at dksX7_tellWays_1 5 rfl rfl)
theorem dX7_tellWays_30 : decode cX7_tellWays 30 = .ok (.getfield 42, 3) := dk_180 0 42 (dk_at dksX7_tellWays_1 6 rfl rfl)
theorem dX7_tellWays_33 : decode cX7_tellWays 33 = .ok (.iconst 0, 1) := dk_3 (dk_at dksX7_tellWays_1 9 rfl rfl)
theorem dX7_tellWays_34 : decode cX7_tellWays 34 = .ok (.iaload, 1) := dk_46 (dk_at dksX7_tellWays_1 10 rfl rfl)
theorem dX7_tellWays_35 : decode cX7_tellWays 35 = .ok (.if_icmp .ge 65, 3) := dk_162 0 65 (dk_at dksX7_tellWays_1 11 rfl rfl)
theorem dX7_tellWays_38 : decode cX7_tellWays 38 = .ok (.iload_n 1, 1) := dk_27 (dk_at dksX7_tellWays_1 14 rfl rfl)
theorem dX7_tellWays_39 : decode cX7_tellWays 39 = .ok (.iload_n 2, 1) := dk_28 (dk_at dksX7_tellWays_1 15 rfl rfl)
theorem dX7_tellWays_40 : decode cX7_tellWays 40 = .ok (.iconst (-1), 1) := dk_2 (dk_at dksX7_tellWays_1 16 rfl rfl)
theorem dX7_tellWays_41 : decode cX7_tellWays 41 = .ok (.ixor, 1) := dk_130 (dk_at dksX7_tellWays_1 17 rfl rfl)
theorem dX7_tellWays_42 : decode cX7_tellWays 42 = .ok (.iand, 1) := dk_126 (dk_at dksX7_tellWays_1 18 rfl rfl)
theorem dX7_tellWays_43 : decode cX7_tellWays 43 = .ok (.iload_n 3, 1) := dk_29 (dk_at dksX7_tellWays_1 19 rfl rfl)
theorem dX7_tellWays_44 : decode cX7_tellWays 44 = .ok (.invokestatic 395, 3) := dk_184 1 139 (dk_at dksX7_tellWays_1 20 rfl rfl)
theorem dX7_tellWays_47 : decode cX7_tellWays 47 = .ok (.ifCond .eq 47, 3) := dk_153 0 47 (dk_at dksX7_tellWays_2 0 rfl rfl)
theorem dX7_tellWays_50 : decode cX7_tellWays 50 = .ok (.aload_n 0, 1) := dk_42 (dk_at dksX7_tellWays_2 3 rfl rfl)
theorem dX7_tellWays_51 : decode cX7_tellWays 51 = .ok (.getfield 103, 3) := dk_180 0 103 (dk_at dksX7_tellWays_2 4 rfl rfl)
theorem dX7_tellWays_54 : decode cX7_tellWays 54 = .ok (.iload_n 2, 1) := dk_28 (dk_at dksX7_tellWays_2 7 rfl rfl)
theorem dX7_tellWays_55 : decode cX7_tellWays 55 = .ok (.iconst 1, 1) := dk_4 (dk_at dksX7_tellWays_2 8 rfl rfl)
theorem dX7_tellWays_56 : decode cX7_tellWays 56 = .ok (.iload_n 3, 1) := dk_29 (dk_at dksX7_tellWays_2 9 rfl rfl)
theorem dX7_tellWays_57 : decode cX7_tellWays 57 = .ok (.ishl, 1) := dk_120 (dk_at dksX7_tellWays_2 10 rfl rfl)
theorem dX7_tellWays_58 : decode cX7_tellWays 58 = .ok (.ior, 1) := dk_128 (dk_at dksX7_tellWays_2 11 rfl rfl)
theorem dX7_tellWays_59 : decode cX7_tellWays 59 = .ok (.laload, 1) := dk_47 (dk_at dksX7_tellWays_2 12 rfl rfl)
theorem dX7_tellWays_60 : decode cX7_tellWays 60 = .ok (.lconst 0, 1) := dk_9 (dk_at dksX7_tellWays_2 13 rfl rfl)
theorem dX7_tellWays_61 : decode cX7_tellWays 61 = .ok (.lcmp, 1) := dk_148 (dk_at dksX7_tellWays_2 14 rfl rfl)
theorem dX7_tellWays_62 : decode cX7_tellWays 62 = .ok (.ifCond .le 32, 3) := dk_158 0 32 (dk_at dksX7_tellWays_2 15 rfl rfl)
theorem dX7_tellWays_65 : decode cX7_tellWays 65 = .ok (.aload_n 0, 1) := dk_42 (dk_at dksX7_tellWays_2 18 rfl rfl)
theorem dX7_tellWays_66 : decode cX7_tellWays 66 = .ok (.iload_n 2, 1) := dk_28 (dk_at dksX7_tellWays_2 19 rfl rfl)
theorem dX7_tellWays_67 : decode cX7_tellWays 67 = .ok (.iload_n 3, 1) := dk_29 (dk_at dksX7_tellWays_2 20 rfl rfl)
theorem dX7_tellWays_68 : decode cX7_tellWays 68 = .ok (.iload_n 1, 1) := dk_27 (dk_at dksX7_tellWays_2 21 rfl rfl)
theorem dX7_tellWays_69 : decode cX7_tellWays 69 = .ok (.invokevirtual 405, 3) := dk_182 1 149 (dk_at dksX7_tellWays_3 0 rfl rfl)
theorem dX7_tellWays_72 : decode cX7_tellWays 72 = .ok (.ifCond .eq 22, 3) := dk_153 0 22 (dk_at dksX7_tellWays_3 3 rfl rfl)
theorem dX7_tellWays_75 : decode cX7_tellWays 75 = .ok (.aload_n 0, 1) := dk_42 (dk_at dksX7_tellWays_3 6 rfl rfl)
theorem dX7_tellWays_76 : decode cX7_tellWays 76 = .ok (.getfield 103, 3) := dk_180 0 103 (dk_at dksX7_tellWays_3 7 rfl rfl)
theorem dX7_tellWays_79 : decode cX7_tellWays 79 = .ok (.iload_n 2, 1) := dk_28 (dk_at dksX7_tellWays_3 10 rfl rfl)
theorem dX7_tellWays_80 : decode cX7_tellWays 80 = .ok (.dup2, 1) := dk_92 (dk_at dksX7_tellWays_3 11 rfl rfl)
theorem dX7_tellWays_81 : decode cX7_tellWays 81 = .ok (.laload, 1) := dk_47 (dk_at dksX7_tellWays_3 12 rfl rfl)
theorem dX7_tellWays_82 : decode cX7_tellWays 82 = .ok (.aload_n 0, 1) := dk_42 (dk_at dksX7_tellWays_3 13 rfl rfl)
theorem dX7_tellWays_83 : decode cX7_tellWays 83 = .ok (.getfield 103, 3) := dk_180 0 103 (dk_at dksX7_tellWays_3 14 rfl rfl)
theorem dX7_tellWays_86 : decode cX7_tellWays 86 = .ok (.iload_n 2, 1) := dk_28 (dk_at dksX7_tellWays_3 17 rfl rfl)
theorem dX7_tellWays_87 : decode cX7_tellWays 87 = .ok (.iconst 1, 1) := dk_4 (dk_at dksX7_tellWays_3 18 rfl rfl)
theorem dX7_tellWays_88 : decode cX7_tellWays 88 = .ok (.iload_n 3, 1) := dk_29 (dk_at dksX7_tellWays_3 19 rfl rfl)
theorem dX7_tellWays_89 : decode cX7_tellWays 89 = .ok (.ishl, 1) := dk_120 (dk_at dksX7_tellWays_3 20 rfl rfl)
theorem dX7_tellWays_90 : decode cX7_tellWays 90 = .ok (.ior, 1) := dk_128 (dk_at dksX7_tellWays_3 21 rfl rfl)
theorem dX7_tellWays_91 : decode cX7_tellWays 91 = .ok (.laload, 1) := dk_47 (dk_at dksX7_tellWays_3 22 rfl rfl)
theorem dX7_tellWays_92 : decode cX7_tellWays 92 = .ok (.ladd, 1) := dk_97 (dk_at dksX7_tellWays_3 23 rfl rfl)
theorem dX7_tellWays_93 : decode cX7_tellWays 93 = .ok (.lastore, 1) := dk_80 (dk_at dksX7_tellWays_4 0 rfl rfl)
theorem dX7_tellWays_94 : decode cX7_tellWays 94 = .ok (.iinc 3 1, 3) := dk_132 3 1 (dk_at dksX7_tellWays_4 1 rfl rfl)
theorem dX7_tellWays_97 : decode cX7_tellWays 97 = .ok (.goto (-69), 3) := dk_167 255 187 (dk_at dksX7_tellWays_4 4 rfl rfl)
theorem dX7_tellWays_100 : decode cX7_tellWays 100 = .ok (.goto (-91), 3) := dk_167 255 165 (dk_at dksX7_tellWays_4 7 rfl rfl)
theorem dX7_tellWays_103 : decode cX7_tellWays 103 = .ok (.return_, 1) := dk_177 (dk_at dksX7_tellWays_4 10 rfl rfl)
abbrev cX7_isOf : ByteArray := prog_20_method_6_code
def yX7_isOf : MethodName := ⟨RX7, "isOf", "(II)Z"⟩
def dkwX7_isOf_0 : List UInt8 := [26, 27, 122, 4, 126, 4, 160, 0, 7, 4, 167, 0, 4, 3, 172]
abbrev dktX7_isOf_0 : List UInt8 := dkwX7_isOf_0 ++ []
theorem dksX7_isOf_0 : cX7_isOf.data.toList.drop 0 = dktX7_isOf_0 := by decide +kernel
theorem dX7_isOf_0 : decode cX7_isOf 0 = .ok (.iload_n 0, 1) := dk_26 (dk_at dksX7_isOf_0 0 rfl rfl)
theorem dX7_isOf_1 : decode cX7_isOf 1 = .ok (.iload_n 1, 1) := dk_27 (dk_at dksX7_isOf_0 1 rfl rfl)
theorem dX7_isOf_2 : decode cX7_isOf 2 = .ok (.ishr, 1) := dk_122 (dk_at dksX7_isOf_0 2 rfl rfl)
theorem dX7_isOf_3 : decode cX7_isOf 3 = .ok (.iconst 1, 1) := dk_4 (dk_at dksX7_isOf_0 3 rfl rfl)
theorem dX7_isOf_4 : decode cX7_isOf 4 = .ok (.iand, 1) := dk_126 (dk_at dksX7_isOf_0 4 rfl rfl)
theorem dX7_isOf_5 : decode cX7_isOf 5 = .ok (.iconst 1, 1) := dk_4 (dk_at dksX7_isOf_0 5 rfl rfl)
theorem dX7_isOf_6 : decode cX7_isOf 6 = .ok (.if_icmp .ne 7, 3) := dk_160 0 7 (dk_at dksX7_isOf_0 6 rfl rfl)
theorem dX7_isOf_9 : decode cX7_isOf 9 = .ok (.iconst 1, 1) := dk_4 (dk_at dksX7_isOf_0 9 rfl rfl)
theorem dX7_isOf_10 : decode cX7_isOf 10 = .ok (.goto 4, 3) := dk_167 0 4 (dk_at dksX7_isOf_0 10 rfl rfl)
theorem dX7_isOf_13 : decode cX7_isOf 13 = .ok (.iconst 0, 1) := dk_3 (dk_at dksX7_isOf_0 13 rfl rfl)
theorem dX7_isOf_14 : decode cX7_isOf 14 = .ok (.ireturn, 1) := dk_172 (dk_at dksX7_isOf_0 14 rfl rfl)
abbrev cX7_fits : ByteArray := prog_20_method_73_code
def yX7_fits : MethodName := ⟨RX7, "fits", "(III)Z"⟩
def dkwX7_fits_4 : List UInt8 := [167, 0, 4, 3, 172]
abbrev dktX7_fits_4 : List UInt8 := dkwX7_fits_4 ++ []
def dkwX7_fits_3 : List UInt8 := [163, 0, 26, 42, 180, 0, 100, 21, 4, 46, 184, 1, 61, 42, 180, 0, 42, 4, 46, 163, 0, 7, 4]
abbrev dktX7_fits_3 : List UInt8 := dkwX7_fits_3 ++ dktX7_fits_4
def dkwX7_fits_2 : List UInt8 := [180, 0, 73, 28, 46, 96, 42, 28, 21, 4, 29, 160, 0, 7, 4, 167, 0, 4, 3, 182, 1, 45]
abbrev dktX7_fits_2 : List UInt8 := dkwX7_fits_2 ++ dktX7_fits_3
def dkwX7_fits_1 : List UInt8 := [180, 1, 146, 162, 0, 5, 3, 172, 42, 180, 0, 97, 29, 46, 42, 180, 0, 97, 21, 4, 46, 100, 42]
abbrev dktX7_fits_1 : List UInt8 := dkwX7_fits_1 ++ dktX7_fits_2
def dkwX7_fits_0 : List UInt8 := [27, 4, 28, 120, 128, 54, 4, 42, 180, 1, 136, 28, 184, 1, 139, 153, 0, 16, 27, 184, 1, 143, 42]
abbrev dktX7_fits_0 : List UInt8 := dkwX7_fits_0 ++ dktX7_fits_1
theorem dksX7_fits_0 : cX7_fits.data.toList.drop 0 = dktX7_fits_0 := by decide +kernel
theorem dksX7_fits_1 : cX7_fits.data.toList.drop 23 = dktX7_fits_1 := dk_seg dksX7_fits_0 23 rfl rfl
theorem dksX7_fits_2 : cX7_fits.data.toList.drop 46 = dktX7_fits_2 := dk_seg dksX7_fits_1 23 rfl rfl
theorem dksX7_fits_3 : cX7_fits.data.toList.drop 68 = dktX7_fits_3 := dk_seg dksX7_fits_2 22 rfl rfl
theorem dksX7_fits_4 : cX7_fits.data.toList.drop 91 = dktX7_fits_4 := dk_seg dksX7_fits_3 23 rfl rfl
theorem dX7_fits_0 : decode cX7_fits 0 = .ok (.iload_n 1, 1) := dk_27 (dk_at dksX7_fits_0 0 rfl rfl)
theorem dX7_fits_1 : decode cX7_fits 1 = .ok (.iconst 1, 1) := dk_4 (dk_at dksX7_fits_0 1 rfl rfl)
theorem dX7_fits_2 : decode cX7_fits 2 = .ok (.iload_n 2, 1) := dk_28 (dk_at dksX7_fits_0 2 rfl rfl)
theorem dX7_fits_3 : decode cX7_fits 3 = .ok (.ishl, 1) := dk_120 (dk_at dksX7_fits_0 3 rfl rfl)
theorem dX7_fits_4 : decode cX7_fits 4 = .ok (.ior, 1) := dk_128 (dk_at dksX7_fits_0 4 rfl rfl)
theorem dX7_fits_5 : decode cX7_fits 5 = .ok (.istore 4, 2) := dk_54 4 (dk_at dksX7_fits_0 5 rfl rfl)
theorem dX7_fits_7 : decode cX7_fits 7 = .ok (.aload_n 0, 1) := dk_42 (dk_at dksX7_fits_0 7 rfl rfl)
theorem dX7_fits_8 : decode cX7_fits 8 = .ok (.getfield 392, 3) := dk_180 1 136 (dk_at dksX7_fits_0 8 rfl rfl)
theorem dX7_fits_11 : decode cX7_fits 11 = .ok (.iload_n 2, 1) := dk_28 (dk_at dksX7_fits_0 11 rfl rfl)
theorem dX7_fits_12 : decode cX7_fits 12 = .ok (.invokestatic 395, 3) := dk_184 1 139 (dk_at dksX7_fits_0 12 rfl rfl)
theorem dX7_fits_15 : decode cX7_fits 15 = .ok (.ifCond .eq 16, 3) := dk_153 0 16 (dk_at dksX7_fits_0 15 rfl rfl)
theorem dX7_fits_18 : decode cX7_fits 18 = .ok (.iload_n 1, 1) := dk_27 (dk_at dksX7_fits_0 18 rfl rfl)
theorem dX7_fits_19 : decode cX7_fits 19 = .ok (.invokestatic 399, 3) := dk_184 1 143 (dk_at dksX7_fits_0 19 rfl rfl)
theorem dX7_fits_22 : decode cX7_fits 22 = .ok (.aload_n 0, 1) := dk_42 (dk_at dksX7_fits_0 22 rfl rfl)
theorem dX7_fits_23 : decode cX7_fits 23 = .ok (.getfield 402, 3) := dk_180 1 146 (dk_at dksX7_fits_1 0 rfl rfl)
theorem dX7_fits_26 : decode cX7_fits 26 = .ok (.if_icmp .ge 5, 3) := dk_162 0 5 (dk_at dksX7_fits_1 3 rfl rfl)
theorem dX7_fits_29 : decode cX7_fits 29 = .ok (.iconst 0, 1) := dk_3 (dk_at dksX7_fits_1 6 rfl rfl)
theorem dX7_fits_30 : decode cX7_fits 30 = .ok (.ireturn, 1) := dk_172 (dk_at dksX7_fits_1 7 rfl rfl)
theorem dX7_fits_31 : decode cX7_fits 31 = .ok (.aload_n 0, 1) := dk_42 (dk_at dksX7_fits_1 8 rfl rfl)
theorem dX7_fits_32 : decode cX7_fits 32 = .ok (.getfield 97, 3) := dk_180 0 97 (dk_at dksX7_fits_1 9 rfl rfl)
theorem dX7_fits_35 : decode cX7_fits 35 = .ok (.iload_n 3, 1) := dk_29 (dk_at dksX7_fits_1 12 rfl rfl)
theorem dX7_fits_36 : decode cX7_fits 36 = .ok (.iaload, 1) := dk_46 (dk_at dksX7_fits_1 13 rfl rfl)
theorem dX7_fits_37 : decode cX7_fits 37 = .ok (.aload_n 0, 1) := dk_42 (dk_at dksX7_fits_1 14 rfl rfl)
theorem dX7_fits_38 : decode cX7_fits 38 = .ok (.getfield 97, 3) := dk_180 0 97 (dk_at dksX7_fits_1 15 rfl rfl)
theorem dX7_fits_41 : decode cX7_fits 41 = .ok (.iload 4, 2) := dk_21 4 (dk_at dksX7_fits_1 18 rfl rfl)
theorem dX7_fits_43 : decode cX7_fits 43 = .ok (.iaload, 1) := dk_46 (dk_at dksX7_fits_1 20 rfl rfl)
theorem dX7_fits_44 : decode cX7_fits 44 = .ok (.isub, 1) := dk_100 (dk_at dksX7_fits_1 21 rfl rfl)
theorem dX7_fits_45 : decode cX7_fits 45 = .ok (.aload_n 0, 1) := dk_42 (dk_at dksX7_fits_1 22 rfl rfl)
theorem dX7_fits_46 : decode cX7_fits 46 = .ok (.getfield 73, 3) := dk_180 0 73 (dk_at dksX7_fits_2 0 rfl rfl)
theorem dX7_fits_49 : decode cX7_fits 49 = .ok (.iload_n 2, 1) := dk_28 (dk_at dksX7_fits_2 3 rfl rfl)
theorem dX7_fits_50 : decode cX7_fits 50 = .ok (.iaload, 1) := dk_46 (dk_at dksX7_fits_2 4 rfl rfl)
theorem dX7_fits_51 : decode cX7_fits 51 = .ok (.iadd, 1) := dk_96 (dk_at dksX7_fits_2 5 rfl rfl)
theorem dX7_fits_52 : decode cX7_fits 52 = .ok (.aload_n 0, 1) := dk_42 (dk_at dksX7_fits_2 6 rfl rfl)
theorem dX7_fits_53 : decode cX7_fits 53 = .ok (.iload_n 2, 1) := dk_28 (dk_at dksX7_fits_2 7 rfl rfl)
theorem dX7_fits_54 : decode cX7_fits 54 = .ok (.iload 4, 2) := dk_21 4 (dk_at dksX7_fits_2 8 rfl rfl)
theorem dX7_fits_56 : decode cX7_fits 56 = .ok (.iload_n 3, 1) := dk_29 (dk_at dksX7_fits_2 10 rfl rfl)
theorem dX7_fits_57 : decode cX7_fits 57 = .ok (.if_icmp .ne 7, 3) := dk_160 0 7 (dk_at dksX7_fits_2 11 rfl rfl)
theorem dX7_fits_60 : decode cX7_fits 60 = .ok (.iconst 1, 1) := dk_4 (dk_at dksX7_fits_2 14 rfl rfl)
theorem dX7_fits_61 : decode cX7_fits 61 = .ok (.goto 4, 3) := dk_167 0 4 (dk_at dksX7_fits_2 15 rfl rfl)
theorem dX7_fits_64 : decode cX7_fits 64 = .ok (.iconst 0, 1) := dk_3 (dk_at dksX7_fits_2 18 rfl rfl)
theorem dX7_fits_65 : decode cX7_fits 65 = .ok (.invokevirtual 301, 3) := dk_182 1 45 (dk_at dksX7_fits_2 19 rfl rfl)
theorem dX7_fits_68 : decode cX7_fits 68 = .ok (.if_icmp .gt 26, 3) := dk_163 0 26 (dk_at dksX7_fits_3 0 rfl rfl)
theorem dX7_fits_71 : decode cX7_fits 71 = .ok (.aload_n 0, 1) := dk_42 (dk_at dksX7_fits_3 3 rfl rfl)
theorem dX7_fits_72 : decode cX7_fits 72 = .ok (.getfield 100, 3) := dk_180 0 100 (dk_at dksX7_fits_3 4 rfl rfl)
theorem dX7_fits_75 : decode cX7_fits 75 = .ok (.iload 4, 2) := dk_21 4 (dk_at dksX7_fits_3 7 rfl rfl)
theorem dX7_fits_77 : decode cX7_fits 77 = .ok (.iaload, 1) := dk_46 (dk_at dksX7_fits_3 9 rfl rfl)
theorem dX7_fits_78 : decode cX7_fits 78 = .ok (.invokestatic 317, 3) := dk_184 1 61 (dk_at dksX7_fits_3 10 rfl rfl)
theorem dX7_fits_81 : decode cX7_fits 81 = .ok (.aload_n 0, 1) := dk_42 (dk_at dksX7_fits_3 13 rfl rfl)
theorem dX7_fits_82 : decode cX7_fits 82 = .ok (.getfield 42, 3) := dk_180 0 42 (dk_at dksX7_fits_3 14 rfl rfl)
theorem dX7_fits_85 : decode cX7_fits 85 = .ok (.iconst 1, 1) := dk_4 (dk_at dksX7_fits_3 17 rfl rfl)
theorem dX7_fits_86 : decode cX7_fits 86 = .ok (.iaload, 1) := dk_46 (dk_at dksX7_fits_3 18 rfl rfl)
theorem dX7_fits_87 : decode cX7_fits 87 = .ok (.if_icmp .gt 7, 3) := dk_163 0 7 (dk_at dksX7_fits_3 19 rfl rfl)
theorem dX7_fits_90 : decode cX7_fits 90 = .ok (.iconst 1, 1) := dk_4 (dk_at dksX7_fits_3 22 rfl rfl)
theorem dX7_fits_91 : decode cX7_fits 91 = .ok (.goto 4, 3) := dk_167 0 4 (dk_at dksX7_fits_4 0 rfl rfl)
theorem dX7_fits_94 : decode cX7_fits 94 = .ok (.iconst 0, 1) := dk_3 (dk_at dksX7_fits_4 3 rfl rfl)
theorem dX7_fits_95 : decode cX7_fits 95 = .ok (.ireturn, 1) := dk_172 (dk_at dksX7_fits_4 4 rfl rfl)
abbrev cX7_row : ByteArray := prog_20_method_77_code
def yX7_row : MethodName := ⟨RX7, "row", "(I)I"⟩
def dkwX7_row_5 : List UInt8 := [132, 6, 1, 167, 255, 192, 29, 4, 21, 4, 120, 128, 62, 132, 5, 1, 167, 255, 167, 21, 4, 172]
abbrev dktX7_row_5 : List UInt8 := dkwX7_row_5 ++ []
def dkwX7_row_4 : List UInt8 := [120, 128, 47, 9, 148, 158, 0, 18, 42, 29, 21, 6, 28, 182, 1, 149, 153, 0, 7, 21, 6, 54, 4]
abbrev dktX7_row_4 : List UInt8 := dkwX7_row_4 ++ dktX7_row_5
def dkwX7_row_3 : List UInt8 := [160, 0, 53, 28, 29, 2, 130, 126, 21, 6, 184, 1, 139, 153, 0, 34, 42, 180, 0, 103, 29, 4, 21, 6]
abbrev dktX7_row_3 : List UInt8 := dkwX7_row_3 ++ dktX7_row_4
def dkwX7_row_2 : List UInt8 := [27, 163, 0, 89, 2, 54, 4, 3, 54, 6, 21, 6, 42, 180, 0, 42, 3, 46, 162, 0, 59, 21, 4, 2]
abbrev dktX7_row_2 : List UInt8 := dkwX7_row_2 ++ dktX7_row_3
def dkwX7_row_1 : List UInt8 := [154, 0, 9, 42, 4, 182, 1, 13, 172, 42, 28, 182, 1, 156, 3, 62, 2, 54, 4, 3, 54, 5, 21, 5]
abbrev dktX7_row_1 : List UInt8 := dkwX7_row_1 ++ dktX7_row_2
def dkwX7_row_0 : List UInt8 := [42, 3, 181, 0, 143, 42, 182, 1, 159, 61, 27, 133, 9, 28, 184, 1, 143, 4, 100, 133, 184, 0, 146]
abbrev dktX7_row_0 : List UInt8 := dkwX7_row_0 ++ dktX7_row_1
theorem dksX7_row_0 : cX7_row.data.toList.drop 0 = dktX7_row_0 := by decide +kernel
theorem dksX7_row_1 : cX7_row.data.toList.drop 23 = dktX7_row_1 := dk_seg dksX7_row_0 23 rfl rfl
theorem dksX7_row_2 : cX7_row.data.toList.drop 47 = dktX7_row_2 := dk_seg dksX7_row_1 24 rfl rfl
theorem dksX7_row_3 : cX7_row.data.toList.drop 71 = dktX7_row_3 := dk_seg dksX7_row_2 24 rfl rfl
theorem dksX7_row_4 : cX7_row.data.toList.drop 95 = dktX7_row_4 := dk_seg dksX7_row_3 24 rfl rfl
theorem dksX7_row_5 : cX7_row.data.toList.drop 118 = dktX7_row_5 := dk_seg dksX7_row_4 23 rfl rfl
theorem dX7_row_0 : decode cX7_row 0 = .ok (.aload_n 0, 1) := dk_42 (dk_at dksX7_row_0 0 rfl rfl)
theorem dX7_row_1 : decode cX7_row 1 = .ok (.iconst 0, 1) := dk_3 (dk_at dksX7_row_0 1 rfl rfl)
theorem dX7_row_2 : decode cX7_row 2 = .ok (.putfield 143, 3) := dk_181 0 143 (dk_at dksX7_row_0 2 rfl rfl)
theorem dX7_row_5 : decode cX7_row 5 = .ok (.aload_n 0, 1) := dk_42 (dk_at dksX7_row_0 5 rfl rfl)
theorem dX7_row_6 : decode cX7_row 6 = .ok (.invokevirtual 415, 3) := dk_182 1 159 (dk_at dksX7_row_0 6 rfl rfl)
theorem dX7_row_9 : decode cX7_row 9 = .ok (.istore_n 2, 1) := dk_61 (dk_at dksX7_row_0 9 rfl rfl)
theorem dX7_row_10 : decode cX7_row 10 = .ok (.iload_n 1, 1) := dk_27 (dk_at dksX7_row_0 10 rfl rfl)
theorem dX7_row_11 : decode cX7_row 11 = .ok (.i2l, 1) := dk_133 (dk_at dksX7_row_0 11 rfl rfl)
theorem dX7_row_12 : decode cX7_row 12 = .ok (.lconst 0, 1) := dk_9 (dk_at dksX7_row_0 12 rfl rfl)
theorem dX7_row_13 : decode cX7_row 13 = .ok (.iload_n 2, 1) := dk_28 (dk_at dksX7_row_0 13 rfl rfl)
theorem dX7_row_14 : decode cX7_row 14 = .ok (.invokestatic 399, 3) := dk_184 1 143 (dk_at dksX7_row_0 14 rfl rfl)
theorem dX7_row_17 : decode cX7_row 17 = .ok (.iconst 1, 1) := dk_4 (dk_at dksX7_row_0 17 rfl rfl)
theorem dX7_row_18 : decode cX7_row 18 = .ok (.isub, 1) := dk_100 (dk_at dksX7_row_0 18 rfl rfl)
theorem dX7_row_19 : decode cX7_row 19 = .ok (.i2l, 1) := dk_133 (dk_at dksX7_row_0 19 rfl rfl)
theorem dX7_row_20 : decode cX7_row 20 = .ok (.invokestatic 146, 3) := dk_184 0 146 (dk_at dksX7_row_0 20 rfl rfl)
theorem dX7_row_23 : decode cX7_row 23 = .ok (.ifCond .ne 9, 3) := dk_154 0 9 (dk_at dksX7_row_1 0 rfl rfl)
theorem dX7_row_26 : decode cX7_row 26 = .ok (.aload_n 0, 1) := dk_42 (dk_at dksX7_row_1 3 rfl rfl)
theorem dX7_row_27 : decode cX7_row 27 = .ok (.iconst 1, 1) := dk_4 (dk_at dksX7_row_1 4 rfl rfl)
theorem dX7_row_28 : decode cX7_row 28 = .ok (.invokevirtual 269, 3) := dk_182 1 13 (dk_at dksX7_row_1 5 rfl rfl)
theorem dX7_row_31 : decode cX7_row 31 = .ok (.ireturn, 1) := dk_172 (dk_at dksX7_row_1 8 rfl rfl)
theorem dX7_row_32 : decode cX7_row 32 = .ok (.aload_n 0, 1) := dk_42 (dk_at dksX7_row_1 9 rfl rfl)
theorem dX7_row_33 : decode cX7_row 33 = .ok (.iload_n 2, 1) := dk_28 (dk_at dksX7_row_1 10 rfl rfl)
theorem dX7_row_34 : decode cX7_row 34 = .ok (.invokevirtual 412, 3) := dk_182 1 156 (dk_at dksX7_row_1 11 rfl rfl)
theorem dX7_row_37 : decode cX7_row 37 = .ok (.iconst 0, 1) := dk_3 (dk_at dksX7_row_1 14 rfl rfl)
theorem dX7_row_38 : decode cX7_row 38 = .ok (.istore_n 3, 1) := dk_62 (dk_at dksX7_row_1 15 rfl rfl)
theorem dX7_row_39 : decode cX7_row 39 = .ok (.iconst (-1), 1) := dk_2 (dk_at dksX7_row_1 16 rfl rfl)
theorem dX7_row_40 : decode cX7_row 40 = .ok (.istore 4, 2) := dk_54 4 (dk_at dksX7_row_1 17 rfl rfl)
theorem dX7_row_42 : decode cX7_row 42 = .ok (.iconst 0, 1) := dk_3 (dk_at dksX7_row_1 19 rfl rfl)
theorem dX7_row_43 : decode cX7_row 43 = .ok (.istore 5, 2) := dk_54 5 (dk_at dksX7_row_1 20 rfl rfl)
theorem dX7_row_45 : decode cX7_row 45 = .ok (.iload 5, 2) := dk_21 5 (dk_at dksX7_row_1 22 rfl rfl)
theorem dX7_row_47 : decode cX7_row 47 = .ok (.iload_n 1, 1) := dk_27 (dk_at dksX7_row_2 0 rfl rfl)
theorem dX7_row_48 : decode cX7_row 48 = .ok (.if_icmp .gt 89, 3) := dk_163 0 89 (dk_at dksX7_row_2 1 rfl rfl)
theorem dX7_row_51 : decode cX7_row 51 = .ok (.iconst (-1), 1) := dk_2 (dk_at dksX7_row_2 4 rfl rfl)
theorem dX7_row_52 : decode cX7_row 52 = .ok (.istore 4, 2) := dk_54 4 (dk_at dksX7_row_2 5 rfl rfl)
theorem dX7_row_54 : decode cX7_row 54 = .ok (.iconst 0, 1) := dk_3 (dk_at dksX7_row_2 7 rfl rfl)
theorem dX7_row_55 : decode cX7_row 55 = .ok (.istore 6, 2) := dk_54 6 (dk_at dksX7_row_2 8 rfl rfl)
theorem dX7_row_57 : decode cX7_row 57 = .ok (.iload 6, 2) := dk_21 6 (dk_at dksX7_row_2 10 rfl rfl)
theorem dX7_row_59 : decode cX7_row 59 = .ok (.aload_n 0, 1) := dk_42 (dk_at dksX7_row_2 12 rfl rfl)
theorem dX7_row_60 : decode cX7_row 60 = .ok (.getfield 42, 3) := dk_180 0 42 (dk_at dksX7_row_2 13 rfl rfl)
theorem dX7_row_63 : decode cX7_row 63 = .ok (.iconst 0, 1) := dk_3 (dk_at dksX7_row_2 16 rfl rfl)
theorem dX7_row_64 : decode cX7_row 64 = .ok (.iaload, 1) := dk_46 (dk_at dksX7_row_2 17 rfl rfl)
theorem dX7_row_65 : decode cX7_row 65 = .ok (.if_icmp .ge 59, 3) := dk_162 0 59 (dk_at dksX7_row_2 18 rfl rfl)
theorem dX7_row_68 : decode cX7_row 68 = .ok (.iload 4, 2) := dk_21 4 (dk_at dksX7_row_2 21 rfl rfl)
theorem dX7_row_70 : decode cX7_row 70 = .ok (.iconst (-1), 1) := dk_2 (dk_at dksX7_row_2 23 rfl rfl)
theorem dX7_row_71 : decode cX7_row 71 = .ok (.if_icmp .ne 53, 3) := dk_160 0 53 (dk_at dksX7_row_3 0 rfl rfl)
theorem dX7_row_74 : decode cX7_row 74 = .ok (.iload_n 2, 1) := dk_28 (dk_at dksX7_row_3 3 rfl rfl)
theorem dX7_row_75 : decode cX7_row 75 = .ok (.iload_n 3, 1) := dk_29 (dk_at dksX7_row_3 4 rfl rfl)
theorem dX7_row_76 : decode cX7_row 76 = .ok (.iconst (-1), 1) := dk_2 (dk_at dksX7_row_3 5 rfl rfl)
theorem dX7_row_77 : decode cX7_row 77 = .ok (.ixor, 1) := dk_130 (dk_at dksX7_row_3 6 rfl rfl)
theorem dX7_row_78 : decode cX7_row 78 = .ok (.iand, 1) := dk_126 (dk_at dksX7_row_3 7 rfl rfl)
theorem dX7_row_79 : decode cX7_row 79 = .ok (.iload 6, 2) := dk_21 6 (dk_at dksX7_row_3 8 rfl rfl)
theorem dX7_row_81 : decode cX7_row 81 = .ok (.invokestatic 395, 3) := dk_184 1 139 (dk_at dksX7_row_3 10 rfl rfl)
theorem dX7_row_84 : decode cX7_row 84 = .ok (.ifCond .eq 34, 3) := dk_153 0 34 (dk_at dksX7_row_3 13 rfl rfl)
theorem dX7_row_87 : decode cX7_row 87 = .ok (.aload_n 0, 1) := dk_42 (dk_at dksX7_row_3 16 rfl rfl)
theorem dX7_row_88 : decode cX7_row 88 = .ok (.getfield 103, 3) := dk_180 0 103 (dk_at dksX7_row_3 17 rfl rfl)
theorem dX7_row_91 : decode cX7_row 91 = .ok (.iload_n 3, 1) := dk_29 (dk_at dksX7_row_3 20 rfl rfl)
theorem dX7_row_92 : decode cX7_row 92 = .ok (.iconst 1, 1) := dk_4 (dk_at dksX7_row_3 21 rfl rfl)
theorem dX7_row_93 : decode cX7_row 93 = .ok (.iload 6, 2) := dk_21 6 (dk_at dksX7_row_3 22 rfl rfl)
theorem dX7_row_95 : decode cX7_row 95 = .ok (.ishl, 1) := dk_120 (dk_at dksX7_row_4 0 rfl rfl)
theorem dX7_row_96 : decode cX7_row 96 = .ok (.ior, 1) := dk_128 (dk_at dksX7_row_4 1 rfl rfl)
theorem dX7_row_97 : decode cX7_row 97 = .ok (.laload, 1) := dk_47 (dk_at dksX7_row_4 2 rfl rfl)
theorem dX7_row_98 : decode cX7_row 98 = .ok (.lconst 0, 1) := dk_9 (dk_at dksX7_row_4 3 rfl rfl)
theorem dX7_row_99 : decode cX7_row 99 = .ok (.lcmp, 1) := dk_148 (dk_at dksX7_row_4 4 rfl rfl)
theorem dX7_row_100 : decode cX7_row 100 = .ok (.ifCond .le 18, 3) := dk_158 0 18 (dk_at dksX7_row_4 5 rfl rfl)
theorem dX7_row_103 : decode cX7_row 103 = .ok (.aload_n 0, 1) := dk_42 (dk_at dksX7_row_4 8 rfl rfl)
theorem dX7_row_104 : decode cX7_row 104 = .ok (.iload_n 3, 1) := dk_29 (dk_at dksX7_row_4 9 rfl rfl)
theorem dX7_row_105 : decode cX7_row 105 = .ok (.iload 6, 2) := dk_21 6 (dk_at dksX7_row_4 10 rfl rfl)
theorem dX7_row_107 : decode cX7_row 107 = .ok (.iload_n 2, 1) := dk_28 (dk_at dksX7_row_4 12 rfl rfl)
theorem dX7_row_108 : decode cX7_row 108 = .ok (.invokevirtual 405, 3) := dk_182 1 149 (dk_at dksX7_row_4 13 rfl rfl)
theorem dX7_row_111 : decode cX7_row 111 = .ok (.ifCond .eq 7, 3) := dk_153 0 7 (dk_at dksX7_row_4 16 rfl rfl)
theorem dX7_row_114 : decode cX7_row 114 = .ok (.iload 6, 2) := dk_21 6 (dk_at dksX7_row_4 19 rfl rfl)
theorem dX7_row_116 : decode cX7_row 116 = .ok (.istore 4, 2) := dk_54 4 (dk_at dksX7_row_4 21 rfl rfl)
theorem dX7_row_118 : decode cX7_row 118 = .ok (.iinc 6 1, 3) := dk_132 6 1 (dk_at dksX7_row_5 0 rfl rfl)
theorem dX7_row_121 : decode cX7_row 121 = .ok (.goto (-64), 3) := dk_167 255 192 (dk_at dksX7_row_5 3 rfl rfl)
theorem dX7_row_124 : decode cX7_row 124 = .ok (.iload_n 3, 1) := dk_29 (dk_at dksX7_row_5 6 rfl rfl)
theorem dX7_row_125 : decode cX7_row 125 = .ok (.iconst 1, 1) := dk_4 (dk_at dksX7_row_5 7 rfl rfl)
theorem dX7_row_126 : decode cX7_row 126 = .ok (.iload 4, 2) := dk_21 4 (dk_at dksX7_row_5 8 rfl rfl)
theorem dX7_row_128 : decode cX7_row 128 = .ok (.ishl, 1) := dk_120 (dk_at dksX7_row_5 10 rfl rfl)
theorem dX7_row_129 : decode cX7_row 129 = .ok (.ior, 1) := dk_128 (dk_at dksX7_row_5 11 rfl rfl)
theorem dX7_row_130 : decode cX7_row 130 = .ok (.istore_n 3, 1) := dk_62 (dk_at dksX7_row_5 12 rfl rfl)
theorem dX7_row_131 : decode cX7_row 131 = .ok (.iinc 5 1, 3) := dk_132 5 1 (dk_at dksX7_row_5 13 rfl rfl)
theorem dX7_row_134 : decode cX7_row 134 = .ok (.goto (-89), 3) := dk_167 255 167 (dk_at dksX7_row_5 16 rfl rfl)
theorem dX7_row_137 : decode cX7_row 137 = .ok (.iload 4, 2) := dk_21 4 (dk_at dksX7_row_5 19 rfl rfl)
theorem dX7_row_139 : decode cX7_row 139 = .ok (.ireturn, 1) := dk_172 (dk_at dksX7_row_5 21 rfl rfl)
abbrev cX7_orders : ByteArray := prog_20_method_79_code
def yX7_orders : MethodName := ⟨RX7, "orders", "()J"⟩
def dkwX7_orders_0 : List UInt8 := [42, 3, 181, 0, 143, 42, 3, 181, 1, 136, 42, 42, 182, 1, 83, 182, 1, 162, 173]
abbrev dktX7_orders_0 : List UInt8 := dkwX7_orders_0 ++ []
theorem dksX7_orders_0 : cX7_orders.data.toList.drop 0 = dktX7_orders_0 := by decide +kernel
theorem dX7_orders_0 : decode cX7_orders 0 = .ok (.aload_n 0, 1) := dk_42 (dk_at dksX7_orders_0 0 rfl rfl)
theorem dX7_orders_1 : decode cX7_orders 1 = .ok (.iconst 0, 1) := dk_3 (dk_at dksX7_orders_0 1 rfl rfl)
theorem dX7_orders_2 : decode cX7_orders 2 = .ok (.putfield 143, 3) := dk_181 0 143 (dk_at dksX7_orders_0 2 rfl rfl)
theorem dX7_orders_5 : decode cX7_orders 5 = .ok (.aload_n 0, 1) := dk_42 (dk_at dksX7_orders_0 5 rfl rfl)
theorem dX7_orders_6 : decode cX7_orders 6 = .ok (.iconst 0, 1) := dk_3 (dk_at dksX7_orders_0 6 rfl rfl)
theorem dX7_orders_7 : decode cX7_orders 7 = .ok (.putfield 392, 3) := dk_181 1 136 (dk_at dksX7_orders_0 7 rfl rfl)
theorem dX7_orders_10 : decode cX7_orders 10 = .ok (.aload_n 0, 1) := dk_42 (dk_at dksX7_orders_0 10 rfl rfl)
theorem dX7_orders_11 : decode cX7_orders 11 = .ok (.aload_n 0, 1) := dk_42 (dk_at dksX7_orders_0 11 rfl rfl)
theorem dX7_orders_12 : decode cX7_orders 12 = .ok (.invokevirtual 339, 3) := dk_182 1 83 (dk_at dksX7_orders_0 12 rfl rfl)
theorem dX7_orders_15 : decode cX7_orders 15 = .ok (.invokevirtual 418, 3) := dk_182 1 162 (dk_at dksX7_orders_0 15 rfl rfl)
theorem dX7_orders_18 : decode cX7_orders 18 = .ok (.lreturn, 1) := dk_173 (dk_at dksX7_orders_0 18 rfl rfl)
abbrev cX7_ordersOf : ByteArray := prog_20_method_78_code
def yX7_ordersOf : MethodName := ⟨RX7, "ordersOf", "(I)J"⟩
def dkwX7_ordersOf_0 : List UInt8 := [42, 182, 1, 153, 27, 154, 0, 5, 10, 173, 42, 27, 182, 1, 156, 42, 180, 0, 103, 3, 47, 173]
abbrev dktX7_ordersOf_0 : List UInt8 := dkwX7_ordersOf_0 ++ []
theorem dksX7_ordersOf_0 : cX7_ordersOf.data.toList.drop 0 = dktX7_ordersOf_0 := by decide +kernel
theorem dX7_ordersOf_0 : decode cX7_ordersOf 0 = .ok (.aload_n 0, 1) := dk_42 (dk_at dksX7_ordersOf_0 0 rfl rfl)
theorem dX7_ordersOf_1 : decode cX7_ordersOf 1 = .ok (.invokevirtual 409, 3) := dk_182 1 153 (dk_at dksX7_ordersOf_0 1 rfl rfl)
theorem dX7_ordersOf_4 : decode cX7_ordersOf 4 = .ok (.iload_n 1, 1) := dk_27 (dk_at dksX7_ordersOf_0 4 rfl rfl)
theorem dX7_ordersOf_5 : decode cX7_ordersOf 5 = .ok (.ifCond .ne 5, 3) := dk_154 0 5 (dk_at dksX7_ordersOf_0 5 rfl rfl)
theorem dX7_ordersOf_8 : decode cX7_ordersOf 8 = .ok (.lconst 1, 1) := dk_10 (dk_at dksX7_ordersOf_0 8 rfl rfl)
theorem dX7_ordersOf_9 : decode cX7_ordersOf 9 = .ok (.lreturn, 1) := dk_173 (dk_at dksX7_ordersOf_0 9 rfl rfl)
theorem dX7_ordersOf_10 : decode cX7_ordersOf 10 = .ok (.aload_n 0, 1) := dk_42 (dk_at dksX7_ordersOf_0 10 rfl rfl)
theorem dX7_ordersOf_11 : decode cX7_ordersOf 11 = .ok (.iload_n 1, 1) := dk_27 (dk_at dksX7_ordersOf_0 11 rfl rfl)
theorem dX7_ordersOf_12 : decode cX7_ordersOf 12 = .ok (.invokevirtual 412, 3) := dk_182 1 156 (dk_at dksX7_ordersOf_0 12 rfl rfl)
theorem dX7_ordersOf_15 : decode cX7_ordersOf 15 = .ok (.aload_n 0, 1) := dk_42 (dk_at dksX7_ordersOf_0 15 rfl rfl)
theorem dX7_ordersOf_16 : decode cX7_ordersOf 16 = .ok (.getfield 103, 3) := dk_180 0 103 (dk_at dksX7_ordersOf_0 16 rfl rfl)
theorem dX7_ordersOf_19 : decode cX7_ordersOf 19 = .ok (.iconst 0, 1) := dk_3 (dk_at dksX7_ordersOf_0 19 rfl rfl)
theorem dX7_ordersOf_20 : decode cX7_ordersOf 20 = .ok (.laload, 1) := dk_47 (dk_at dksX7_ordersOf_0 20 rfl rfl)
theorem dX7_ordersOf_21 : decode cX7_ordersOf 21 = .ok (.lreturn, 1) := dk_173 (dk_at dksX7_ordersOf_0 21 rfl rfl)
abbrev cX7_lifted : ByteArray := prog_20_method_80_code
def yX7_lifted : MethodName := ⟨RX7, "lifted", "(II)J"⟩
def dkwX7_lifted_2 : List UInt8 := [181, 1, 136, 42, 28, 181, 1, 146, 42, 42, 182, 1, 83, 182, 1, 162, 66, 42, 3, 181, 1, 136, 33, 173]
abbrev dktX7_lifted_2 : List UInt8 := dkwX7_lifted_2 ++ []
def dkwX7_lifted_1 : List UInt8 := [153, 0, 15, 28, 133, 9, 20, 1, 166, 184, 0, 146, 154, 0, 10, 42, 4, 182, 1, 13, 133, 173, 42, 27]
abbrev dktX7_lifted_1 : List UInt8 := dkwX7_lifted_1 ++ dktX7_lifted_2
def dkwX7_lifted_0 : List UInt8 := [42, 3, 181, 0, 143, 27, 133, 9, 4, 42, 180, 0, 42, 3, 46, 120, 4, 100, 133, 184, 0, 146]
abbrev dktX7_lifted_0 : List UInt8 := dkwX7_lifted_0 ++ dktX7_lifted_1
theorem dksX7_lifted_0 : cX7_lifted.data.toList.drop 0 = dktX7_lifted_0 := by decide +kernel
theorem dksX7_lifted_1 : cX7_lifted.data.toList.drop 22 = dktX7_lifted_1 := dk_seg dksX7_lifted_0 22 rfl rfl
theorem dksX7_lifted_2 : cX7_lifted.data.toList.drop 46 = dktX7_lifted_2 := dk_seg dksX7_lifted_1 24 rfl rfl
theorem dX7_lifted_0 : decode cX7_lifted 0 = .ok (.aload_n 0, 1) := dk_42 (dk_at dksX7_lifted_0 0 rfl rfl)
theorem dX7_lifted_1 : decode cX7_lifted 1 = .ok (.iconst 0, 1) := dk_3 (dk_at dksX7_lifted_0 1 rfl rfl)
theorem dX7_lifted_2 : decode cX7_lifted 2 = .ok (.putfield 143, 3) := dk_181 0 143 (dk_at dksX7_lifted_0 2 rfl rfl)
theorem dX7_lifted_5 : decode cX7_lifted 5 = .ok (.iload_n 1, 1) := dk_27 (dk_at dksX7_lifted_0 5 rfl rfl)
theorem dX7_lifted_6 : decode cX7_lifted 6 = .ok (.i2l, 1) := dk_133 (dk_at dksX7_lifted_0 6 rfl rfl)
theorem dX7_lifted_7 : decode cX7_lifted 7 = .ok (.lconst 0, 1) := dk_9 (dk_at dksX7_lifted_0 7 rfl rfl)
theorem dX7_lifted_8 : decode cX7_lifted 8 = .ok (.iconst 1, 1) := dk_4 (dk_at dksX7_lifted_0 8 rfl rfl)
theorem dX7_lifted_9 : decode cX7_lifted 9 = .ok (.aload_n 0, 1) := dk_42 (dk_at dksX7_lifted_0 9 rfl rfl)
theorem dX7_lifted_10 : decode cX7_lifted 10 = .ok (.getfield 42, 3) := dk_180 0 42 (dk_at dksX7_lifted_0 10 rfl rfl)
theorem dX7_lifted_13 : decode cX7_lifted 13 = .ok (.iconst 0, 1) := dk_3 (dk_at dksX7_lifted_0 13 rfl rfl)
theorem dX7_lifted_14 : decode cX7_lifted 14 = .ok (.iaload, 1) := dk_46 (dk_at dksX7_lifted_0 14 rfl rfl)
theorem dX7_lifted_15 : decode cX7_lifted 15 = .ok (.ishl, 1) := dk_120 (dk_at dksX7_lifted_0 15 rfl rfl)
theorem dX7_lifted_16 : decode cX7_lifted 16 = .ok (.iconst 1, 1) := dk_4 (dk_at dksX7_lifted_0 16 rfl rfl)
theorem dX7_lifted_17 : decode cX7_lifted 17 = .ok (.isub, 1) := dk_100 (dk_at dksX7_lifted_0 17 rfl rfl)
theorem dX7_lifted_18 : decode cX7_lifted 18 = .ok (.i2l, 1) := dk_133 (dk_at dksX7_lifted_0 18 rfl rfl)
theorem dX7_lifted_19 : decode cX7_lifted 19 = .ok (.invokestatic 146, 3) := dk_184 0 146 (dk_at dksX7_lifted_0 19 rfl rfl)
theorem dX7_lifted_22 : decode cX7_lifted 22 = .ok (.ifCond .eq 15, 3) := dk_153 0 15 (dk_at dksX7_lifted_1 0 rfl rfl)
theorem dX7_lifted_25 : decode cX7_lifted 25 = .ok (.iload_n 2, 1) := dk_28 (dk_at dksX7_lifted_1 3 rfl rfl)
theorem dX7_lifted_26 : decode cX7_lifted 26 = .ok (.i2l, 1) := dk_133 (dk_at dksX7_lifted_1 4 rfl rfl)
theorem dX7_lifted_27 : decode cX7_lifted 27 = .ok (.lconst 0, 1) := dk_9 (dk_at dksX7_lifted_1 5 rfl rfl)
theorem dX7_lifted_28 : decode cX7_lifted 28 = .ok (.ldc2_w 422, 3) := dk_20 1 166 (dk_at dksX7_lifted_1 6 rfl rfl)
theorem dX7_lifted_31 : decode cX7_lifted 31 = .ok (.invokestatic 146, 3) := dk_184 0 146 (dk_at dksX7_lifted_1 9 rfl rfl)
theorem dX7_lifted_34 : decode cX7_lifted 34 = .ok (.ifCond .ne 10, 3) := dk_154 0 10 (dk_at dksX7_lifted_1 12 rfl rfl)
theorem dX7_lifted_37 : decode cX7_lifted 37 = .ok (.aload_n 0, 1) := dk_42 (dk_at dksX7_lifted_1 15 rfl rfl)
theorem dX7_lifted_38 : decode cX7_lifted 38 = .ok (.iconst 1, 1) := dk_4 (dk_at dksX7_lifted_1 16 rfl rfl)
theorem dX7_lifted_39 : decode cX7_lifted 39 = .ok (.invokevirtual 269, 3) := dk_182 1 13 (dk_at dksX7_lifted_1 17 rfl rfl)
theorem dX7_lifted_42 : decode cX7_lifted 42 = .ok (.i2l, 1) := dk_133 (dk_at dksX7_lifted_1 20 rfl rfl)
theorem dX7_lifted_43 : decode cX7_lifted 43 = .ok (.lreturn, 1) := dk_173 (dk_at dksX7_lifted_1 21 rfl rfl)
theorem dX7_lifted_44 : decode cX7_lifted 44 = .ok (.aload_n 0, 1) := dk_42 (dk_at dksX7_lifted_1 22 rfl rfl)
theorem dX7_lifted_45 : decode cX7_lifted 45 = .ok (.iload_n 1, 1) := dk_27 (dk_at dksX7_lifted_1 23 rfl rfl)
theorem dX7_lifted_46 : decode cX7_lifted 46 = .ok (.putfield 392, 3) := dk_181 1 136 (dk_at dksX7_lifted_2 0 rfl rfl)
theorem dX7_lifted_49 : decode cX7_lifted 49 = .ok (.aload_n 0, 1) := dk_42 (dk_at dksX7_lifted_2 3 rfl rfl)
theorem dX7_lifted_50 : decode cX7_lifted 50 = .ok (.iload_n 2, 1) := dk_28 (dk_at dksX7_lifted_2 4 rfl rfl)
theorem dX7_lifted_51 : decode cX7_lifted 51 = .ok (.putfield 402, 3) := dk_181 1 146 (dk_at dksX7_lifted_2 5 rfl rfl)
theorem dX7_lifted_54 : decode cX7_lifted 54 = .ok (.aload_n 0, 1) := dk_42 (dk_at dksX7_lifted_2 8 rfl rfl)
theorem dX7_lifted_55 : decode cX7_lifted 55 = .ok (.aload_n 0, 1) := dk_42 (dk_at dksX7_lifted_2 9 rfl rfl)
theorem dX7_lifted_56 : decode cX7_lifted 56 = .ok (.invokevirtual 339, 3) := dk_182 1 83 (dk_at dksX7_lifted_2 10 rfl rfl)
theorem dX7_lifted_59 : decode cX7_lifted 59 = .ok (.invokevirtual 418, 3) := dk_182 1 162 (dk_at dksX7_lifted_2 13 rfl rfl)
theorem dX7_lifted_62 : decode cX7_lifted 62 = .ok (.lstore_n 3, 1) := dk_66 (dk_at dksX7_lifted_2 16 rfl rfl)
theorem dX7_lifted_63 : decode cX7_lifted 63 = .ok (.aload_n 0, 1) := dk_42 (dk_at dksX7_lifted_2 17 rfl rfl)
theorem dX7_lifted_64 : decode cX7_lifted 64 = .ok (.iconst 0, 1) := dk_3 (dk_at dksX7_lifted_2 18 rfl rfl)
theorem dX7_lifted_65 : decode cX7_lifted 65 = .ok (.putfield 392, 3) := dk_181 1 136 (dk_at dksX7_lifted_2 19 rfl rfl)
theorem dX7_lifted_68 : decode cX7_lifted 68 = .ok (.lload_n 3, 1) := dk_33 (dk_at dksX7_lifted_2 22 rfl rfl)
theorem dX7_lifted_69 : decode cX7_lifted 69 = .ok (.lreturn, 1) := dk_173 (dk_at dksX7_lifted_2 23 rfl rfl)
abbrev cX7_wedges : ByteArray := prog_20_method_82_code
def yX7_wedges : MethodName := ⟨RX7, "wedges", "()I"⟩
def dkwX7_wedges_4 : List UInt8 := [160, 0, 7, 2, 167, 0, 4, 27, 172]
abbrev dktX7_wedges_4 : List UInt8 := dkwX7_wedges_4 ++ []
def dkwX7_wedges_3 : List UInt8 := [163, 0, 20, 27, 42, 180, 0, 107, 28, 46, 184, 0, 183, 60, 132, 2, 1, 167, 255, 236, 27, 18, 182]
abbrev dktX7_wedges_3 : List UInt8 := dkwX7_wedges_3 ++ dktX7_wedges_4
def dkwX7_wedges_2 : List UInt8 := [180, 0, 70, 27, 46, 182, 1, 168, 132, 1, 1, 167, 255, 235, 18, 182, 60, 3, 61, 28, 16, 80]
abbrev dktX7_wedges_2 : List UInt8 := dkwX7_wedges_2 ++ dktX7_wedges_3
def dkwX7_wedges_1 : List UInt8 := [167, 255, 239, 42, 180, 0, 107, 16, 40, 3, 79, 3, 60, 27, 42, 180, 0, 150, 162, 0, 19, 42, 42]
abbrev dktX7_wedges_1 : List UInt8 := dkwX7_wedges_1 ++ dktX7_wedges_2
def dkwX7_wedges_0 : List UInt8 := [42, 3, 181, 0, 143, 3, 60, 27, 16, 80, 163, 0, 17, 42, 180, 0, 107, 27, 18, 182, 79, 132, 1, 1]
abbrev dktX7_wedges_0 : List UInt8 := dkwX7_wedges_0 ++ dktX7_wedges_1
theorem dksX7_wedges_0 : cX7_wedges.data.toList.drop 0 = dktX7_wedges_0 := by decide +kernel
theorem dksX7_wedges_1 : cX7_wedges.data.toList.drop 24 = dktX7_wedges_1 := dk_seg dksX7_wedges_0 24 rfl rfl
theorem dksX7_wedges_2 : cX7_wedges.data.toList.drop 47 = dktX7_wedges_2 := dk_seg dksX7_wedges_1 23 rfl rfl
theorem dksX7_wedges_3 : cX7_wedges.data.toList.drop 69 = dktX7_wedges_3 := dk_seg dksX7_wedges_2 22 rfl rfl
theorem dksX7_wedges_4 : cX7_wedges.data.toList.drop 92 = dktX7_wedges_4 := dk_seg dksX7_wedges_3 23 rfl rfl
theorem dX7_wedges_0 : decode cX7_wedges 0 = .ok (.aload_n 0, 1) := dk_42 (dk_at dksX7_wedges_0 0 rfl rfl)
theorem dX7_wedges_1 : decode cX7_wedges 1 = .ok (.iconst 0, 1) := dk_3 (dk_at dksX7_wedges_0 1 rfl rfl)
theorem dX7_wedges_2 : decode cX7_wedges 2 = .ok (.putfield 143, 3) := dk_181 0 143 (dk_at dksX7_wedges_0 2 rfl rfl)
theorem dX7_wedges_5 : decode cX7_wedges 5 = .ok (.iconst 0, 1) := dk_3 (dk_at dksX7_wedges_0 5 rfl rfl)
theorem dX7_wedges_6 : decode cX7_wedges 6 = .ok (.istore_n 1, 1) := dk_60 (dk_at dksX7_wedges_0 6 rfl rfl)
theorem dX7_wedges_7 : decode cX7_wedges 7 = .ok (.iload_n 1, 1) := dk_27 (dk_at dksX7_wedges_0 7 rfl rfl)
theorem dX7_wedges_8 : decode cX7_wedges 8 = .ok (.bipush 80, 2) := dk_16 80 (dk_at dksX7_wedges_0 8 rfl rfl)
theorem dX7_wedges_10 : decode cX7_wedges 10 = .ok (.if_icmp .gt 17, 3) := dk_163 0 17 (dk_at dksX7_wedges_0 10 rfl rfl)
theorem dX7_wedges_13 : decode cX7_wedges 13 = .ok (.aload_n 0, 1) := dk_42 (dk_at dksX7_wedges_0 13 rfl rfl)
theorem dX7_wedges_14 : decode cX7_wedges 14 = .ok (.getfield 107, 3) := dk_180 0 107 (dk_at dksX7_wedges_0 14 rfl rfl)
theorem dX7_wedges_17 : decode cX7_wedges 17 = .ok (.iload_n 1, 1) := dk_27 (dk_at dksX7_wedges_0 17 rfl rfl)
theorem dX7_wedges_18 : decode cX7_wedges 18 = .ok (.ldc 182, 2) := dk_18 182 (dk_at dksX7_wedges_0 18 rfl rfl)
theorem dX7_wedges_20 : decode cX7_wedges 20 = .ok (.iastore, 1) := dk_79 (dk_at dksX7_wedges_0 20 rfl rfl)
theorem dX7_wedges_21 : decode cX7_wedges 21 = .ok (.iinc 1 1, 3) := dk_132 1 1 (dk_at dksX7_wedges_0 21 rfl rfl)
theorem dX7_wedges_24 : decode cX7_wedges 24 = .ok (.goto (-17), 3) := dk_167 255 239 (dk_at dksX7_wedges_1 0 rfl rfl)
theorem dX7_wedges_27 : decode cX7_wedges 27 = .ok (.aload_n 0, 1) := dk_42 (dk_at dksX7_wedges_1 3 rfl rfl)
theorem dX7_wedges_28 : decode cX7_wedges 28 = .ok (.getfield 107, 3) := dk_180 0 107 (dk_at dksX7_wedges_1 4 rfl rfl)
theorem dX7_wedges_31 : decode cX7_wedges 31 = .ok (.bipush 40, 2) := dk_16 40 (dk_at dksX7_wedges_1 7 rfl rfl)
theorem dX7_wedges_33 : decode cX7_wedges 33 = .ok (.iconst 0, 1) := dk_3 (dk_at dksX7_wedges_1 9 rfl rfl)
theorem dX7_wedges_34 : decode cX7_wedges 34 = .ok (.iastore, 1) := dk_79 (dk_at dksX7_wedges_1 10 rfl rfl)
theorem dX7_wedges_35 : decode cX7_wedges 35 = .ok (.iconst 0, 1) := dk_3 (dk_at dksX7_wedges_1 11 rfl rfl)
theorem dX7_wedges_36 : decode cX7_wedges 36 = .ok (.istore_n 1, 1) := dk_60 (dk_at dksX7_wedges_1 12 rfl rfl)
theorem dX7_wedges_37 : decode cX7_wedges 37 = .ok (.iload_n 1, 1) := dk_27 (dk_at dksX7_wedges_1 13 rfl rfl)
theorem dX7_wedges_38 : decode cX7_wedges 38 = .ok (.aload_n 0, 1) := dk_42 (dk_at dksX7_wedges_1 14 rfl rfl)
theorem dX7_wedges_39 : decode cX7_wedges 39 = .ok (.getfield 150, 3) := dk_180 0 150 (dk_at dksX7_wedges_1 15 rfl rfl)
theorem dX7_wedges_42 : decode cX7_wedges 42 = .ok (.if_icmp .ge 19, 3) := dk_162 0 19 (dk_at dksX7_wedges_1 18 rfl rfl)
theorem dX7_wedges_45 : decode cX7_wedges 45 = .ok (.aload_n 0, 1) := dk_42 (dk_at dksX7_wedges_1 21 rfl rfl)
theorem dX7_wedges_46 : decode cX7_wedges 46 = .ok (.aload_n 0, 1) := dk_42 (dk_at dksX7_wedges_1 22 rfl rfl)
theorem dX7_wedges_47 : decode cX7_wedges 47 = .ok (.getfield 70, 3) := dk_180 0 70 (dk_at dksX7_wedges_2 0 rfl rfl)
theorem dX7_wedges_50 : decode cX7_wedges 50 = .ok (.iload_n 1, 1) := dk_27 (dk_at dksX7_wedges_2 3 rfl rfl)
theorem dX7_wedges_51 : decode cX7_wedges 51 = .ok (.iaload, 1) := dk_46 (dk_at dksX7_wedges_2 4 rfl rfl)
theorem dX7_wedges_52 : decode cX7_wedges 52 = .ok (.invokevirtual 424, 3) := dk_182 1 168 (dk_at dksX7_wedges_2 5 rfl rfl)
theorem dX7_wedges_55 : decode cX7_wedges 55 = .ok (.iinc 1 1, 3) := dk_132 1 1 (dk_at dksX7_wedges_2 8 rfl rfl)
theorem dX7_wedges_58 : decode cX7_wedges 58 = .ok (.goto (-21), 3) := dk_167 255 235 (dk_at dksX7_wedges_2 11 rfl rfl)
theorem dX7_wedges_61 : decode cX7_wedges 61 = .ok (.ldc 182, 2) := dk_18 182 (dk_at dksX7_wedges_2 14 rfl rfl)
theorem dX7_wedges_63 : decode cX7_wedges 63 = .ok (.istore_n 1, 1) := dk_60 (dk_at dksX7_wedges_2 16 rfl rfl)
theorem dX7_wedges_64 : decode cX7_wedges 64 = .ok (.iconst 0, 1) := dk_3 (dk_at dksX7_wedges_2 17 rfl rfl)
theorem dX7_wedges_65 : decode cX7_wedges 65 = .ok (.istore_n 2, 1) := dk_61 (dk_at dksX7_wedges_2 18 rfl rfl)
theorem dX7_wedges_66 : decode cX7_wedges 66 = .ok (.iload_n 2, 1) := dk_28 (dk_at dksX7_wedges_2 19 rfl rfl)
theorem dX7_wedges_67 : decode cX7_wedges 67 = .ok (.bipush 80, 2) := dk_16 80 (dk_at dksX7_wedges_2 20 rfl rfl)
theorem dX7_wedges_69 : decode cX7_wedges 69 = .ok (.if_icmp .gt 20, 3) := dk_163 0 20 (dk_at dksX7_wedges_3 0 rfl rfl)
theorem dX7_wedges_72 : decode cX7_wedges 72 = .ok (.iload_n 1, 1) := dk_27 (dk_at dksX7_wedges_3 3 rfl rfl)
theorem dX7_wedges_73 : decode cX7_wedges 73 = .ok (.aload_n 0, 1) := dk_42 (dk_at dksX7_wedges_3 4 rfl rfl)
theorem dX7_wedges_74 : decode cX7_wedges 74 = .ok (.getfield 107, 3) := dk_180 0 107 (dk_at dksX7_wedges_3 5 rfl rfl)
theorem dX7_wedges_77 : decode cX7_wedges 77 = .ok (.iload_n 2, 1) := dk_28 (dk_at dksX7_wedges_3 8 rfl rfl)
theorem dX7_wedges_78 : decode cX7_wedges 78 = .ok (.iaload, 1) := dk_46 (dk_at dksX7_wedges_3 9 rfl rfl)
theorem dX7_wedges_79 : decode cX7_wedges 79 = .ok (.invokestatic 183, 3) := dk_184 0 183 (dk_at dksX7_wedges_3 10 rfl rfl)
theorem dX7_wedges_82 : decode cX7_wedges 82 = .ok (.istore_n 1, 1) := dk_60 (dk_at dksX7_wedges_3 13 rfl rfl)
theorem dX7_wedges_83 : decode cX7_wedges 83 = .ok (.iinc 2 1, 3) := dk_132 2 1 (dk_at dksX7_wedges_3 14 rfl rfl)
theorem dX7_wedges_86 : decode cX7_wedges 86 = .ok (.goto (-20), 3) := dk_167 255 236 (dk_at dksX7_wedges_3 17 rfl rfl)
theorem dX7_wedges_89 : decode cX7_wedges 89 = .ok (.iload_n 1, 1) := dk_27 (dk_at dksX7_wedges_3 20 rfl rfl)
theorem dX7_wedges_90 : decode cX7_wedges 90 = .ok (.ldc 182, 2) := dk_18 182 (dk_at dksX7_wedges_3 21 rfl rfl)
theorem dX7_wedges_92 : decode cX7_wedges 92 = .ok (.if_icmp .ne 7, 3) := dk_160 0 7 (dk_at dksX7_wedges_4 0 rfl rfl)
theorem dX7_wedges_95 : decode cX7_wedges 95 = .ok (.iconst (-1), 1) := dk_2 (dk_at dksX7_wedges_4 3 rfl rfl)
theorem dX7_wedges_96 : decode cX7_wedges 96 = .ok (.goto 4, 3) := dk_167 0 4 (dk_at dksX7_wedges_4 4 rfl rfl)
theorem dX7_wedges_99 : decode cX7_wedges 99 = .ok (.iload_n 1, 1) := dk_27 (dk_at dksX7_wedges_4 7 rfl rfl)
theorem dX7_wedges_100 : decode cX7_wedges 100 = .ok (.ireturn, 1) := dk_172 (dk_at dksX7_wedges_4 8 rfl rfl)
abbrev cX7_wedgeLevel : ByteArray := prog_20_method_81_code
def yX7_wedgeLevel : MethodName := ⟨RX7, "wedgeLevel", "(I)V"⟩
def dkwX7_wedgeLevel_7 : List UInt8 := [132, 3, 1, 167, 255, 235, 177]
abbrev dktX7_wedgeLevel_7 : List UInt8 := dkwX7_wedgeLevel_7 ++ []
def dkwX7_wedgeLevel_6 : List UInt8 := [167, 255, 152, 3, 62, 29, 16, 80, 163, 0, 21, 42, 180, 0, 107, 29, 42, 180, 0, 110, 29, 46, 79]
abbrev dktX7_wedgeLevel_6 : List UInt8 := dkwX7_wedgeLevel_6 ++ dktX7_wedgeLevel_7
def dkwX7_wedgeLevel_5 : List UInt8 := [180, 0, 107, 29, 46, 21, 4, 184, 1, 61, 96, 184, 0, 183, 79, 132, 4, 1, 167, 255, 168, 132, 3, 1]
abbrev dktX7_wedgeLevel_5 : List UInt8 := dkwX7_wedgeLevel_5 ++ dktX7_wedgeLevel_6
def dkwX7_wedgeLevel_4 : List UInt8 := [46, 163, 0, 38, 42, 180, 0, 110, 21, 5, 16, 40, 96, 42, 180, 0, 110, 21, 5, 16, 40, 96, 46, 42]
abbrev dktX7_wedgeLevel_4 : List UInt8 := dkwX7_wedgeLevel_4 ++ dktX7_wedgeLevel_5
def dkwX7_wedgeLevel_3 : List UInt8 := [28, 42, 180, 0, 79, 27, 46, 21, 4, 96, 104, 96, 54, 5, 21, 5, 184, 1, 61, 42, 180, 0, 42, 4]
abbrev dktX7_wedgeLevel_3 : List UInt8 := dkwX7_wedgeLevel_3 ++ dktX7_wedgeLevel_4
def dkwX7_wedgeLevel_2 : List UInt8 := [54, 4, 21, 4, 16, 9, 163, 0, 87, 42, 180, 0, 107, 29, 46, 18, 182, 162, 0, 76, 29, 16, 40, 100]
abbrev dktX7_wedgeLevel_2 : List UInt8 := dkwX7_wedgeLevel_2 ++ dktX7_wedgeLevel_3
def dkwX7_wedgeLevel_1 : List UInt8 := [42, 180, 0, 110, 29, 18, 182, 79, 132, 3, 1, 167, 255, 239, 3, 62, 29, 16, 80, 163, 0, 104, 16, 247]
abbrev dktX7_wedgeLevel_1 : List UInt8 := dkwX7_wedgeLevel_1 ++ dktX7_wedgeLevel_2
def dkwX7_wedgeLevel_0 : List UInt8 := [42, 180, 0, 45, 27, 46, 6, 160, 0, 7, 5, 167, 0, 4, 4, 61, 3, 62, 29, 16, 80, 163, 0, 17]
abbrev dktX7_wedgeLevel_0 : List UInt8 := dkwX7_wedgeLevel_0 ++ dktX7_wedgeLevel_1
theorem dksX7_wedgeLevel_0 : cX7_wedgeLevel.data.toList.drop 0 = dktX7_wedgeLevel_0 := by decide +kernel
theorem dksX7_wedgeLevel_1 : cX7_wedgeLevel.data.toList.drop 24 = dktX7_wedgeLevel_1 := dk_seg dksX7_wedgeLevel_0 24 rfl rfl
theorem dksX7_wedgeLevel_2 : cX7_wedgeLevel.data.toList.drop 48 = dktX7_wedgeLevel_2 := dk_seg dksX7_wedgeLevel_1 24 rfl rfl
theorem dksX7_wedgeLevel_3 : cX7_wedgeLevel.data.toList.drop 72 = dktX7_wedgeLevel_3 := dk_seg dksX7_wedgeLevel_2 24 rfl rfl
theorem dksX7_wedgeLevel_4 : cX7_wedgeLevel.data.toList.drop 96 = dktX7_wedgeLevel_4 := dk_seg dksX7_wedgeLevel_3 24 rfl rfl
theorem dksX7_wedgeLevel_5 : cX7_wedgeLevel.data.toList.drop 120 = dktX7_wedgeLevel_5 := dk_seg dksX7_wedgeLevel_4 24 rfl rfl
theorem dksX7_wedgeLevel_6 : cX7_wedgeLevel.data.toList.drop 144 = dktX7_wedgeLevel_6 := dk_seg dksX7_wedgeLevel_5 24 rfl rfl
theorem dksX7_wedgeLevel_7 : cX7_wedgeLevel.data.toList.drop 167 = dktX7_wedgeLevel_7 := dk_seg dksX7_wedgeLevel_6 23 rfl rfl
theorem dX7_wedgeLevel_0 : decode cX7_wedgeLevel 0 = .ok (.aload_n 0, 1) := dk_42 (dk_at dksX7_wedgeLevel_0 0 rfl rfl)
theorem dX7_wedgeLevel_1 : decode cX7_wedgeLevel 1 = .ok (.getfield 45, 3) := dk_180 0 45 (dk_at dksX7_wedgeLevel_0 1 rfl rfl)
theorem dX7_wedgeLevel_4 : decode cX7_wedgeLevel 4 = .ok (.iload_n 1, 1) := dk_27 (dk_at dksX7_wedgeLevel_0 4 rfl rfl)
theorem dX7_wedgeLevel_5 : decode cX7_wedgeLevel 5 = .ok (.iaload, 1) := dk_46 (dk_at dksX7_wedgeLevel_0 5 rfl rfl)
theorem dX7_wedgeLevel_6 : decode cX7_wedgeLevel 6 = .ok (.iconst 3, 1) := dk_6 (dk_at dksX7_wedgeLevel_0 6 rfl rfl)
theorem dX7_wedgeLevel_7 : decode cX7_wedgeLevel 7 = .ok (.if_icmp .ne 7, 3) := dk_160 0 7 (dk_at dksX7_wedgeLevel_0 7 rfl rfl)
theorem dX7_wedgeLevel_10 : decode cX7_wedgeLevel 10 = .ok (.iconst 2, 1) := dk_5 (dk_at dksX7_wedgeLevel_0 10 rfl rfl)
theorem dX7_wedgeLevel_11 : decode cX7_wedgeLevel 11 = .ok (.goto 4, 3) := dk_167 0 4 (dk_at dksX7_wedgeLevel_0 11 rfl rfl)
theorem dX7_wedgeLevel_14 : decode cX7_wedgeLevel 14 = .ok (.iconst 1, 1) := dk_4 (dk_at dksX7_wedgeLevel_0 14 rfl rfl)
theorem dX7_wedgeLevel_15 : decode cX7_wedgeLevel 15 = .ok (.istore_n 2, 1) := dk_61 (dk_at dksX7_wedgeLevel_0 15 rfl rfl)
theorem dX7_wedgeLevel_16 : decode cX7_wedgeLevel 16 = .ok (.iconst 0, 1) := dk_3 (dk_at dksX7_wedgeLevel_0 16 rfl rfl)
theorem dX7_wedgeLevel_17 : decode cX7_wedgeLevel 17 = .ok (.istore_n 3, 1) := dk_62 (dk_at dksX7_wedgeLevel_0 17 rfl rfl)
theorem dX7_wedgeLevel_18 : decode cX7_wedgeLevel 18 = .ok (.iload_n 3, 1) := dk_29 (dk_at dksX7_wedgeLevel_0 18 rfl rfl)
theorem dX7_wedgeLevel_19 : decode cX7_wedgeLevel 19 = .ok (.bipush 80, 2) := dk_16 80 (dk_at dksX7_wedgeLevel_0 19 rfl rfl)
theorem dX7_wedgeLevel_21 : decode cX7_wedgeLevel 21 = .ok (.if_icmp .gt 17, 3) := dk_163 0 17 (dk_at dksX7_wedgeLevel_0 21 rfl rfl)
theorem dX7_wedgeLevel_24 : decode cX7_wedgeLevel 24 = .ok (.aload_n 0, 1) := dk_42 (dk_at dksX7_wedgeLevel_1 0 rfl rfl)
theorem dX7_wedgeLevel_25 : decode cX7_wedgeLevel 25 = .ok (.getfield 110, 3) := dk_180 0 110 (dk_at dksX7_wedgeLevel_1 1 rfl rfl)
theorem dX7_wedgeLevel_28 : decode cX7_wedgeLevel 28 = .ok (.iload_n 3, 1) := dk_29 (dk_at dksX7_wedgeLevel_1 4 rfl rfl)
theorem dX7_wedgeLevel_29 : decode cX7_wedgeLevel 29 = .ok (.ldc 182, 2) := dk_18 182 (dk_at dksX7_wedgeLevel_1 5 rfl rfl)
theorem dX7_wedgeLevel_31 : decode cX7_wedgeLevel 31 = .ok (.iastore, 1) := dk_79 (dk_at dksX7_wedgeLevel_1 7 rfl rfl)
theorem dX7_wedgeLevel_32 : decode cX7_wedgeLevel 32 = .ok (.iinc 3 1, 3) := dk_132 3 1 (dk_at dksX7_wedgeLevel_1 8 rfl rfl)
theorem dX7_wedgeLevel_35 : decode cX7_wedgeLevel 35 = .ok (.goto (-17), 3) := dk_167 255 239 (dk_at dksX7_wedgeLevel_1 11 rfl rfl)
theorem dX7_wedgeLevel_38 : decode cX7_wedgeLevel 38 = .ok (.iconst 0, 1) := dk_3 (dk_at dksX7_wedgeLevel_1 14 rfl rfl)
theorem dX7_wedgeLevel_39 : decode cX7_wedgeLevel 39 = .ok (.istore_n 3, 1) := dk_62 (dk_at dksX7_wedgeLevel_1 15 rfl rfl)
theorem dX7_wedgeLevel_40 : decode cX7_wedgeLevel 40 = .ok (.iload_n 3, 1) := dk_29 (dk_at dksX7_wedgeLevel_1 16 rfl rfl)
theorem dX7_wedgeLevel_41 : decode cX7_wedgeLevel 41 = .ok (.bipush 80, 2) := dk_16 80 (dk_at dksX7_wedgeLevel_1 17 rfl rfl)
theorem dX7_wedgeLevel_43 : decode cX7_wedgeLevel 43 = .ok (.if_icmp .gt 104, 3) := dk_163 0 104 (dk_at dksX7_wedgeLevel_1 19 rfl rfl)
theorem dX7_wedgeLevel_46 : decode cX7_wedgeLevel 46 = .ok (.bipush (-9), 2) := dk_16 247 (dk_at dksX7_wedgeLevel_1 22 rfl rfl)
theorem dX7_wedgeLevel_48 : decode cX7_wedgeLevel 48 = .ok (.istore 4, 2) := dk_54 4 (dk_at dksX7_wedgeLevel_2 0 rfl rfl)
theorem dX7_wedgeLevel_50 : decode cX7_wedgeLevel 50 = .ok (.iload 4, 2) := dk_21 4 (dk_at dksX7_wedgeLevel_2 2 rfl rfl)
theorem dX7_wedgeLevel_52 : decode cX7_wedgeLevel 52 = .ok (.bipush 9, 2) := dk_16 9 (dk_at dksX7_wedgeLevel_2 4 rfl rfl)
theorem dX7_wedgeLevel_54 : decode cX7_wedgeLevel 54 = .ok (.if_icmp .gt 87, 3) := dk_163 0 87 (dk_at dksX7_wedgeLevel_2 6 rfl rfl)
theorem dX7_wedgeLevel_57 : decode cX7_wedgeLevel 57 = .ok (.aload_n 0, 1) := dk_42 (dk_at dksX7_wedgeLevel_2 9 rfl rfl)
theorem dX7_wedgeLevel_58 : decode cX7_wedgeLevel 58 = .ok (.getfield 107, 3) := dk_180 0 107 (dk_at dksX7_wedgeLevel_2 10 rfl rfl)
theorem dX7_wedgeLevel_61 : decode cX7_wedgeLevel 61 = .ok (.iload_n 3, 1) := dk_29 (dk_at dksX7_wedgeLevel_2 13 rfl rfl)
theorem dX7_wedgeLevel_62 : decode cX7_wedgeLevel 62 = .ok (.iaload, 1) := dk_46 (dk_at dksX7_wedgeLevel_2 14 rfl rfl)
theorem dX7_wedgeLevel_63 : decode cX7_wedgeLevel 63 = .ok (.ldc 182, 2) := dk_18 182 (dk_at dksX7_wedgeLevel_2 15 rfl rfl)
theorem dX7_wedgeLevel_65 : decode cX7_wedgeLevel 65 = .ok (.if_icmp .ge 76, 3) := dk_162 0 76 (dk_at dksX7_wedgeLevel_2 17 rfl rfl)
theorem dX7_wedgeLevel_68 : decode cX7_wedgeLevel 68 = .ok (.iload_n 3, 1) := dk_29 (dk_at dksX7_wedgeLevel_2 20 rfl rfl)
theorem dX7_wedgeLevel_69 : decode cX7_wedgeLevel 69 = .ok (.bipush 40, 2) := dk_16 40 (dk_at dksX7_wedgeLevel_2 21 rfl rfl)
theorem dX7_wedgeLevel_71 : decode cX7_wedgeLevel 71 = .ok (.isub, 1) := dk_100 (dk_at dksX7_wedgeLevel_2 23 rfl rfl)
theorem dX7_wedgeLevel_72 : decode cX7_wedgeLevel 72 = .ok (.iload_n 2, 1) := dk_28 (dk_at dksX7_wedgeLevel_3 0 rfl rfl)
theorem dX7_wedgeLevel_73 : decode cX7_wedgeLevel 73 = .ok (.aload_n 0, 1) := dk_42 (dk_at dksX7_wedgeLevel_3 1 rfl rfl)
theorem dX7_wedgeLevel_74 : decode cX7_wedgeLevel 74 = .ok (.getfield 79, 3) := dk_180 0 79 (dk_at dksX7_wedgeLevel_3 2 rfl rfl)
theorem dX7_wedgeLevel_77 : decode cX7_wedgeLevel 77 = .ok (.iload_n 1, 1) := dk_27 (dk_at dksX7_wedgeLevel_3 5 rfl rfl)
theorem dX7_wedgeLevel_78 : decode cX7_wedgeLevel 78 = .ok (.iaload, 1) := dk_46 (dk_at dksX7_wedgeLevel_3 6 rfl rfl)
theorem dX7_wedgeLevel_79 : decode cX7_wedgeLevel 79 = .ok (.iload 4, 2) := dk_21 4 (dk_at dksX7_wedgeLevel_3 7 rfl rfl)
theorem dX7_wedgeLevel_81 : decode cX7_wedgeLevel 81 = .ok (.iadd, 1) := dk_96 (dk_at dksX7_wedgeLevel_3 9 rfl rfl)
theorem dX7_wedgeLevel_82 : decode cX7_wedgeLevel 82 = .ok (.imul, 1) := dk_104 (dk_at dksX7_wedgeLevel_3 10 rfl rfl)
theorem dX7_wedgeLevel_83 : decode cX7_wedgeLevel 83 = .ok (.iadd, 1) := dk_96 (dk_at dksX7_wedgeLevel_3 11 rfl rfl)
theorem dX7_wedgeLevel_84 : decode cX7_wedgeLevel 84 = .ok (.istore 5, 2) := dk_54 5 (dk_at dksX7_wedgeLevel_3 12 rfl rfl)
theorem dX7_wedgeLevel_86 : decode cX7_wedgeLevel 86 = .ok (.iload 5, 2) := dk_21 5 (dk_at dksX7_wedgeLevel_3 14 rfl rfl)
theorem dX7_wedgeLevel_88 : decode cX7_wedgeLevel 88 = .ok (.invokestatic 317, 3) := dk_184 1 61 (dk_at dksX7_wedgeLevel_3 16 rfl rfl)
theorem dX7_wedgeLevel_91 : decode cX7_wedgeLevel 91 = .ok (.aload_n 0, 1) := dk_42 (dk_at dksX7_wedgeLevel_3 19 rfl rfl)
theorem dX7_wedgeLevel_92 : decode cX7_wedgeLevel 92 = .ok (.getfield 42, 3) := dk_180 0 42 (dk_at dksX7_wedgeLevel_3 20 rfl rfl)
theorem dX7_wedgeLevel_95 : decode cX7_wedgeLevel 95 = .ok (.iconst 1, 1) := dk_4 (dk_at dksX7_wedgeLevel_3 23 rfl rfl)
theorem dX7_wedgeLevel_96 : decode cX7_wedgeLevel 96 = .ok (.iaload, 1) := dk_46 (dk_at dksX7_wedgeLevel_4 0 rfl rfl)
theorem dX7_wedgeLevel_97 : decode cX7_wedgeLevel 97 = .ok (.if_icmp .gt 38, 3) := dk_163 0 38 (dk_at dksX7_wedgeLevel_4 1 rfl rfl)
theorem dX7_wedgeLevel_100 : decode cX7_wedgeLevel 100 = .ok (.aload_n 0, 1) := dk_42 (dk_at dksX7_wedgeLevel_4 4 rfl rfl)
theorem dX7_wedgeLevel_101 : decode cX7_wedgeLevel 101 = .ok (.getfield 110, 3) := dk_180 0 110 (dk_at dksX7_wedgeLevel_4 5 rfl rfl)
theorem dX7_wedgeLevel_104 : decode cX7_wedgeLevel 104 = .ok (.iload 5, 2) := dk_21 5 (dk_at dksX7_wedgeLevel_4 8 rfl rfl)
theorem dX7_wedgeLevel_106 : decode cX7_wedgeLevel 106 = .ok (.bipush 40, 2) := dk_16 40 (dk_at dksX7_wedgeLevel_4 10 rfl rfl)
theorem dX7_wedgeLevel_108 : decode cX7_wedgeLevel 108 = .ok (.iadd, 1) := dk_96 (dk_at dksX7_wedgeLevel_4 12 rfl rfl)
theorem dX7_wedgeLevel_109 : decode cX7_wedgeLevel 109 = .ok (.aload_n 0, 1) := dk_42 (dk_at dksX7_wedgeLevel_4 13 rfl rfl)
theorem dX7_wedgeLevel_110 : decode cX7_wedgeLevel 110 = .ok (.getfield 110, 3) := dk_180 0 110 (dk_at dksX7_wedgeLevel_4 14 rfl rfl)
theorem dX7_wedgeLevel_113 : decode cX7_wedgeLevel 113 = .ok (.iload 5, 2) := dk_21 5 (dk_at dksX7_wedgeLevel_4 17 rfl rfl)
theorem dX7_wedgeLevel_115 : decode cX7_wedgeLevel 115 = .ok (.bipush 40, 2) := dk_16 40 (dk_at dksX7_wedgeLevel_4 19 rfl rfl)
theorem dX7_wedgeLevel_117 : decode cX7_wedgeLevel 117 = .ok (.iadd, 1) := dk_96 (dk_at dksX7_wedgeLevel_4 21 rfl rfl)
theorem dX7_wedgeLevel_118 : decode cX7_wedgeLevel 118 = .ok (.iaload, 1) := dk_46 (dk_at dksX7_wedgeLevel_4 22 rfl rfl)
theorem dX7_wedgeLevel_119 : decode cX7_wedgeLevel 119 = .ok (.aload_n 0, 1) := dk_42 (dk_at dksX7_wedgeLevel_4 23 rfl rfl)
theorem dX7_wedgeLevel_120 : decode cX7_wedgeLevel 120 = .ok (.getfield 107, 3) := dk_180 0 107 (dk_at dksX7_wedgeLevel_5 0 rfl rfl)
theorem dX7_wedgeLevel_123 : decode cX7_wedgeLevel 123 = .ok (.iload_n 3, 1) := dk_29 (dk_at dksX7_wedgeLevel_5 3 rfl rfl)
theorem dX7_wedgeLevel_124 : decode cX7_wedgeLevel 124 = .ok (.iaload, 1) := dk_46 (dk_at dksX7_wedgeLevel_5 4 rfl rfl)
theorem dX7_wedgeLevel_125 : decode cX7_wedgeLevel 125 = .ok (.iload 4, 2) := dk_21 4 (dk_at dksX7_wedgeLevel_5 5 rfl rfl)
theorem dX7_wedgeLevel_127 : decode cX7_wedgeLevel 127 = .ok (.invokestatic 317, 3) := dk_184 1 61 (dk_at dksX7_wedgeLevel_5 7 rfl rfl)
theorem dX7_wedgeLevel_130 : decode cX7_wedgeLevel 130 = .ok (.iadd, 1) := dk_96 (dk_at dksX7_wedgeLevel_5 10 rfl rfl)
theorem dX7_wedgeLevel_131 : decode cX7_wedgeLevel 131 = .ok (.invokestatic 183, 3) := dk_184 0 183 (dk_at dksX7_wedgeLevel_5 11 rfl rfl)
theorem dX7_wedgeLevel_134 : decode cX7_wedgeLevel 134 = .ok (.iastore, 1) := dk_79 (dk_at dksX7_wedgeLevel_5 14 rfl rfl)
theorem dX7_wedgeLevel_135 : decode cX7_wedgeLevel 135 = .ok (.iinc 4 1, 3) := dk_132 4 1 (dk_at dksX7_wedgeLevel_5 15 rfl rfl)
theorem dX7_wedgeLevel_138 : decode cX7_wedgeLevel 138 = .ok (.goto (-88), 3) := dk_167 255 168 (dk_at dksX7_wedgeLevel_5 18 rfl rfl)
theorem dX7_wedgeLevel_141 : decode cX7_wedgeLevel 141 = .ok (.iinc 3 1, 3) := dk_132 3 1 (dk_at dksX7_wedgeLevel_5 21 rfl rfl)
theorem dX7_wedgeLevel_144 : decode cX7_wedgeLevel 144 = .ok (.goto (-104), 3) := dk_167 255 152 (dk_at dksX7_wedgeLevel_6 0 rfl rfl)
theorem dX7_wedgeLevel_147 : decode cX7_wedgeLevel 147 = .ok (.iconst 0, 1) := dk_3 (dk_at dksX7_wedgeLevel_6 3 rfl rfl)
theorem dX7_wedgeLevel_148 : decode cX7_wedgeLevel 148 = .ok (.istore_n 3, 1) := dk_62 (dk_at dksX7_wedgeLevel_6 4 rfl rfl)
theorem dX7_wedgeLevel_149 : decode cX7_wedgeLevel 149 = .ok (.iload_n 3, 1) := dk_29 (dk_at dksX7_wedgeLevel_6 5 rfl rfl)
theorem dX7_wedgeLevel_150 : decode cX7_wedgeLevel 150 = .ok (.bipush 80, 2) := dk_16 80 (dk_at dksX7_wedgeLevel_6 6 rfl rfl)
theorem dX7_wedgeLevel_152 : decode cX7_wedgeLevel 152 = .ok (.if_icmp .gt 21, 3) := dk_163 0 21 (dk_at dksX7_wedgeLevel_6 8 rfl rfl)
theorem dX7_wedgeLevel_155 : decode cX7_wedgeLevel 155 = .ok (.aload_n 0, 1) := dk_42 (dk_at dksX7_wedgeLevel_6 11 rfl rfl)
theorem dX7_wedgeLevel_156 : decode cX7_wedgeLevel 156 = .ok (.getfield 107, 3) := dk_180 0 107 (dk_at dksX7_wedgeLevel_6 12 rfl rfl)
theorem dX7_wedgeLevel_159 : decode cX7_wedgeLevel 159 = .ok (.iload_n 3, 1) := dk_29 (dk_at dksX7_wedgeLevel_6 15 rfl rfl)
theorem dX7_wedgeLevel_160 : decode cX7_wedgeLevel 160 = .ok (.aload_n 0, 1) := dk_42 (dk_at dksX7_wedgeLevel_6 16 rfl rfl)
theorem dX7_wedgeLevel_161 : decode cX7_wedgeLevel 161 = .ok (.getfield 110, 3) := dk_180 0 110 (dk_at dksX7_wedgeLevel_6 17 rfl rfl)
theorem dX7_wedgeLevel_164 : decode cX7_wedgeLevel 164 = .ok (.iload_n 3, 1) := dk_29 (dk_at dksX7_wedgeLevel_6 20 rfl rfl)
theorem dX7_wedgeLevel_165 : decode cX7_wedgeLevel 165 = .ok (.iaload, 1) := dk_46 (dk_at dksX7_wedgeLevel_6 21 rfl rfl)
theorem dX7_wedgeLevel_166 : decode cX7_wedgeLevel 166 = .ok (.iastore, 1) := dk_79 (dk_at dksX7_wedgeLevel_6 22 rfl rfl)
theorem dX7_wedgeLevel_167 : decode cX7_wedgeLevel 167 = .ok (.iinc 3 1, 3) := dk_132 3 1 (dk_at dksX7_wedgeLevel_7 0 rfl rfl)
theorem dX7_wedgeLevel_170 : decode cX7_wedgeLevel 170 = .ok (.goto (-21), 3) := dk_167 255 235 (dk_at dksX7_wedgeLevel_7 3 rfl rfl)
theorem dX7_wedgeLevel_173 : decode cX7_wedgeLevel 173 = .ok (.return_, 1) := dk_177 (dk_at dksX7_wedgeLevel_7 6 rfl rfl)
abbrev cX7_when : ByteArray := prog_20_method_83_code
def yX7_when : MethodName := ⟨RX7, "when", "()I"⟩
def dkwX7_when_2 : List UInt8 := [167, 255, 226, 42, 27, 181, 1, 26, 28, 172]
abbrev dktX7_when_2 : List UInt8 := dkwX7_when_2 ++ []
def dkwX7_when_1 : List UInt8 := [160, 0, 25, 42, 27, 29, 96, 181, 1, 26, 42, 182, 1, 70, 154, 0, 5, 29, 61, 132, 3, 1]
abbrev dktX7_when_1 : List UInt8 := dkwX7_when_1 ++ dktX7_when_2
def dkwX7_when_0 : List UInt8 := [42, 3, 181, 0, 143, 42, 180, 1, 26, 60, 2, 61, 3, 62, 29, 16, 99, 163, 0, 30, 28, 2]
abbrev dktX7_when_0 : List UInt8 := dkwX7_when_0 ++ dktX7_when_1
theorem dksX7_when_0 : cX7_when.data.toList.drop 0 = dktX7_when_0 := by decide +kernel
theorem dksX7_when_1 : cX7_when.data.toList.drop 22 = dktX7_when_1 := dk_seg dksX7_when_0 22 rfl rfl
theorem dksX7_when_2 : cX7_when.data.toList.drop 44 = dktX7_when_2 := dk_seg dksX7_when_1 22 rfl rfl
theorem dX7_when_0 : decode cX7_when 0 = .ok (.aload_n 0, 1) := dk_42 (dk_at dksX7_when_0 0 rfl rfl)
theorem dX7_when_1 : decode cX7_when 1 = .ok (.iconst 0, 1) := dk_3 (dk_at dksX7_when_0 1 rfl rfl)
theorem dX7_when_2 : decode cX7_when 2 = .ok (.putfield 143, 3) := dk_181 0 143 (dk_at dksX7_when_0 2 rfl rfl)
theorem dX7_when_5 : decode cX7_when 5 = .ok (.aload_n 0, 1) := dk_42 (dk_at dksX7_when_0 5 rfl rfl)
theorem dX7_when_6 : decode cX7_when 6 = .ok (.getfield 282, 3) := dk_180 1 26 (dk_at dksX7_when_0 6 rfl rfl)
theorem dX7_when_9 : decode cX7_when 9 = .ok (.istore_n 1, 1) := dk_60 (dk_at dksX7_when_0 9 rfl rfl)
theorem dX7_when_10 : decode cX7_when 10 = .ok (.iconst (-1), 1) := dk_2 (dk_at dksX7_when_0 10 rfl rfl)
theorem dX7_when_11 : decode cX7_when 11 = .ok (.istore_n 2, 1) := dk_61 (dk_at dksX7_when_0 11 rfl rfl)
theorem dX7_when_12 : decode cX7_when 12 = .ok (.iconst 0, 1) := dk_3 (dk_at dksX7_when_0 12 rfl rfl)
theorem dX7_when_13 : decode cX7_when 13 = .ok (.istore_n 3, 1) := dk_62 (dk_at dksX7_when_0 13 rfl rfl)
theorem dX7_when_14 : decode cX7_when 14 = .ok (.iload_n 3, 1) := dk_29 (dk_at dksX7_when_0 14 rfl rfl)
theorem dX7_when_15 : decode cX7_when 15 = .ok (.bipush 99, 2) := dk_16 99 (dk_at dksX7_when_0 15 rfl rfl)
theorem dX7_when_17 : decode cX7_when 17 = .ok (.if_icmp .gt 30, 3) := dk_163 0 30 (dk_at dksX7_when_0 17 rfl rfl)
theorem dX7_when_20 : decode cX7_when 20 = .ok (.iload_n 2, 1) := dk_28 (dk_at dksX7_when_0 20 rfl rfl)
theorem dX7_when_21 : decode cX7_when 21 = .ok (.iconst (-1), 1) := dk_2 (dk_at dksX7_when_0 21 rfl rfl)
theorem dX7_when_22 : decode cX7_when 22 = .ok (.if_icmp .ne 25, 3) := dk_160 0 25 (dk_at dksX7_when_1 0 rfl rfl)
theorem dX7_when_25 : decode cX7_when 25 = .ok (.aload_n 0, 1) := dk_42 (dk_at dksX7_when_1 3 rfl rfl)
theorem dX7_when_26 : decode cX7_when 26 = .ok (.iload_n 1, 1) := dk_27 (dk_at dksX7_when_1 4 rfl rfl)
theorem dX7_when_27 : decode cX7_when 27 = .ok (.iload_n 3, 1) := dk_29 (dk_at dksX7_when_1 5 rfl rfl)
theorem dX7_when_28 : decode cX7_when 28 = .ok (.iadd, 1) := dk_96 (dk_at dksX7_when_1 6 rfl rfl)
theorem dX7_when_29 : decode cX7_when 29 = .ok (.putfield 282, 3) := dk_181 1 26 (dk_at dksX7_when_1 7 rfl rfl)
theorem dX7_when_32 : decode cX7_when 32 = .ok (.aload_n 0, 1) := dk_42 (dk_at dksX7_when_1 10 rfl rfl)
theorem dX7_when_33 : decode cX7_when 33 = .ok (.invokevirtual 326, 3) := dk_182 1 70 (dk_at dksX7_when_1 11 rfl rfl)
theorem dX7_when_36 : decode cX7_when 36 = .ok (.ifCond .ne 5, 3) := dk_154 0 5 (dk_at dksX7_when_1 14 rfl rfl)
theorem dX7_when_39 : decode cX7_when 39 = .ok (.iload_n 3, 1) := dk_29 (dk_at dksX7_when_1 17 rfl rfl)
theorem dX7_when_40 : decode cX7_when 40 = .ok (.istore_n 2, 1) := dk_61 (dk_at dksX7_when_1 18 rfl rfl)
theorem dX7_when_41 : decode cX7_when 41 = .ok (.iinc 3 1, 3) := dk_132 3 1 (dk_at dksX7_when_1 19 rfl rfl)
theorem dX7_when_44 : decode cX7_when 44 = .ok (.goto (-30), 3) := dk_167 255 226 (dk_at dksX7_when_2 0 rfl rfl)
theorem dX7_when_47 : decode cX7_when 47 = .ok (.aload_n 0, 1) := dk_42 (dk_at dksX7_when_2 3 rfl rfl)
theorem dX7_when_48 : decode cX7_when 48 = .ok (.iload_n 1, 1) := dk_27 (dk_at dksX7_when_2 4 rfl rfl)
theorem dX7_when_49 : decode cX7_when 49 = .ok (.putfield 282, 3) := dk_181 1 26 (dk_at dksX7_when_2 5 rfl rfl)
theorem dX7_when_52 : decode cX7_when 52 = .ok (.iload_n 2, 1) := dk_28 (dk_at dksX7_when_2 8 rfl rfl)
theorem dX7_when_53 : decode cX7_when 53 = .ok (.ireturn, 1) := dk_172 (dk_at dksX7_when_2 9 rfl rfl)
abbrev cX7_broken : ByteArray := prog_20_method_84_code
def yX7_broken : MethodName := ⟨RX7, "broken", "(I)I"⟩
def dkwX7_broken_2 : List UInt8 := [28, 172]
abbrev dktX7_broken_2 : List UInt8 := dkwX7_broken_2 ++ []
def dkwX7_broken_1 : List UInt8 := [89, 180, 1, 26, 27, 96, 181, 1, 26, 42, 182, 1, 67, 61, 42, 89, 180, 1, 26, 27, 100, 181, 1, 26]
abbrev dktX7_broken_1 : List UInt8 := dkwX7_broken_1 ++ dktX7_broken_2
def dkwX7_broken_0 : List UInt8 := [42, 3, 181, 0, 143, 27, 133, 9, 20, 1, 171, 184, 0, 146, 154, 0, 9, 42, 4, 182, 1, 13, 172, 42]
abbrev dktX7_broken_0 : List UInt8 := dkwX7_broken_0 ++ dktX7_broken_1
theorem dksX7_broken_0 : cX7_broken.data.toList.drop 0 = dktX7_broken_0 := by decide +kernel
theorem dksX7_broken_1 : cX7_broken.data.toList.drop 24 = dktX7_broken_1 := dk_seg dksX7_broken_0 24 rfl rfl
theorem dksX7_broken_2 : cX7_broken.data.toList.drop 48 = dktX7_broken_2 := dk_seg dksX7_broken_1 24 rfl rfl
theorem dX7_broken_0 : decode cX7_broken 0 = .ok (.aload_n 0, 1) := dk_42 (dk_at dksX7_broken_0 0 rfl rfl)
theorem dX7_broken_1 : decode cX7_broken 1 = .ok (.iconst 0, 1) := dk_3 (dk_at dksX7_broken_0 1 rfl rfl)
theorem dX7_broken_2 : decode cX7_broken 2 = .ok (.putfield 143, 3) := dk_181 0 143 (dk_at dksX7_broken_0 2 rfl rfl)
theorem dX7_broken_5 : decode cX7_broken 5 = .ok (.iload_n 1, 1) := dk_27 (dk_at dksX7_broken_0 5 rfl rfl)
theorem dX7_broken_6 : decode cX7_broken 6 = .ok (.i2l, 1) := dk_133 (dk_at dksX7_broken_0 6 rfl rfl)
theorem dX7_broken_7 : decode cX7_broken 7 = .ok (.lconst 0, 1) := dk_9 (dk_at dksX7_broken_0 7 rfl rfl)
theorem dX7_broken_8 : decode cX7_broken 8 = .ok (.ldc2_w 427, 3) := dk_20 1 171 (dk_at dksX7_broken_0 8 rfl rfl)
theorem dX7_broken_11 : decode cX7_broken 11 = .ok (.invokestatic 146, 3) := dk_184 0 146 (dk_at dksX7_broken_0 11 rfl rfl)
theorem dX7_broken_14 : decode cX7_broken 14 = .ok (.ifCond .ne 9, 3) := dk_154 0 9 (dk_at dksX7_broken_0 14 rfl rfl)
theorem dX7_broken_17 : decode cX7_broken 17 = .ok (.aload_n 0, 1) := dk_42 (dk_at dksX7_broken_0 17 rfl rfl)
theorem dX7_broken_18 : decode cX7_broken 18 = .ok (.iconst 1, 1) := dk_4 (dk_at dksX7_broken_0 18 rfl rfl)
theorem dX7_broken_19 : decode cX7_broken 19 = .ok (.invokevirtual 269, 3) := dk_182 1 13 (dk_at dksX7_broken_0 19 rfl rfl)
theorem dX7_broken_22 : decode cX7_broken 22 = .ok (.ireturn, 1) := dk_172 (dk_at dksX7_broken_0 22 rfl rfl)
theorem dX7_broken_23 : decode cX7_broken 23 = .ok (.aload_n 0, 1) := dk_42 (dk_at dksX7_broken_0 23 rfl rfl)
theorem dX7_broken_24 : decode cX7_broken 24 = .ok (.dup, 1) := dk_89 (dk_at dksX7_broken_1 0 rfl rfl)
theorem dX7_broken_25 : decode cX7_broken 25 = .ok (.getfield 282, 3) := dk_180 1 26 (dk_at dksX7_broken_1 1 rfl rfl)
theorem dX7_broken_28 : decode cX7_broken 28 = .ok (.iload_n 1, 1) := dk_27 (dk_at dksX7_broken_1 4 rfl rfl)
theorem dX7_broken_29 : decode cX7_broken 29 = .ok (.iadd, 1) := dk_96 (dk_at dksX7_broken_1 5 rfl rfl)
theorem dX7_broken_30 : decode cX7_broken 30 = .ok (.putfield 282, 3) := dk_181 1 26 (dk_at dksX7_broken_1 6 rfl rfl)
theorem dX7_broken_33 : decode cX7_broken 33 = .ok (.aload_n 0, 1) := dk_42 (dk_at dksX7_broken_1 9 rfl rfl)
theorem dX7_broken_34 : decode cX7_broken 34 = .ok (.invokevirtual 323, 3) := dk_182 1 67 (dk_at dksX7_broken_1 10 rfl rfl)
theorem dX7_broken_37 : decode cX7_broken 37 = .ok (.istore_n 2, 1) := dk_61 (dk_at dksX7_broken_1 13 rfl rfl)
theorem dX7_broken_38 : decode cX7_broken 38 = .ok (.aload_n 0, 1) := dk_42 (dk_at dksX7_broken_1 14 rfl rfl)
theorem dX7_broken_39 : decode cX7_broken 39 = .ok (.dup, 1) := dk_89 (dk_at dksX7_broken_1 15 rfl rfl)
theorem dX7_broken_40 : decode cX7_broken 40 = .ok (.getfield 282, 3) := dk_180 1 26 (dk_at dksX7_broken_1 16 rfl rfl)
theorem dX7_broken_43 : decode cX7_broken 43 = .ok (.iload_n 1, 1) := dk_27 (dk_at dksX7_broken_1 19 rfl rfl)
theorem dX7_broken_44 : decode cX7_broken 44 = .ok (.isub, 1) := dk_100 (dk_at dksX7_broken_1 20 rfl rfl)
theorem dX7_broken_45 : decode cX7_broken 45 = .ok (.putfield 282, 3) := dk_181 1 26 (dk_at dksX7_broken_1 21 rfl rfl)
theorem dX7_broken_48 : decode cX7_broken 48 = .ok (.iload_n 2, 1) := dk_28 (dk_at dksX7_broken_2 0 rfl rfl)
theorem dX7_broken_49 : decode cX7_broken 49 = .ok (.ireturn, 1) := dk_172 (dk_at dksX7_broken_2 1 rfl rfl)
abbrev cX7_marry : ByteArray := prog_20_method_86_code
def yX7_marry : MethodName := ⟨RX7, "marry", "(II)Z"⟩
def dkwX7_marry_1 : List UInt8 := [182, 1, 104, 172, 27, 28, 160, 0, 11, 42, 5, 182, 1, 104, 167, 0, 9, 42, 27, 28, 182, 1, 173, 172]
abbrev dktX7_marry_1 : List UInt8 := dkwX7_marry_1 ++ []
def dkwX7_marry_0 : List UInt8 := [42, 3, 181, 0, 143, 42, 27, 182, 1, 77, 153, 0, 11, 42, 28, 182, 1, 77, 154, 0, 9, 42, 4]
abbrev dktX7_marry_0 : List UInt8 := dkwX7_marry_0 ++ dktX7_marry_1
theorem dksX7_marry_0 : cX7_marry.data.toList.drop 0 = dktX7_marry_0 := by decide +kernel
theorem dksX7_marry_1 : cX7_marry.data.toList.drop 23 = dktX7_marry_1 := dk_seg dksX7_marry_0 23 rfl rfl
theorem dX7_marry_0 : decode cX7_marry 0 = .ok (.aload_n 0, 1) := dk_42 (dk_at dksX7_marry_0 0 rfl rfl)
theorem dX7_marry_1 : decode cX7_marry 1 = .ok (.iconst 0, 1) := dk_3 (dk_at dksX7_marry_0 1 rfl rfl)
theorem dX7_marry_2 : decode cX7_marry 2 = .ok (.putfield 143, 3) := dk_181 0 143 (dk_at dksX7_marry_0 2 rfl rfl)
theorem dX7_marry_5 : decode cX7_marry 5 = .ok (.aload_n 0, 1) := dk_42 (dk_at dksX7_marry_0 5 rfl rfl)
theorem dX7_marry_6 : decode cX7_marry 6 = .ok (.iload_n 1, 1) := dk_27 (dk_at dksX7_marry_0 6 rfl rfl)
theorem dX7_marry_7 : decode cX7_marry 7 = .ok (.invokevirtual 333, 3) := dk_182 1 77 (dk_at dksX7_marry_0 7 rfl rfl)
theorem dX7_marry_10 : decode cX7_marry 10 = .ok (.ifCond .eq 11, 3) := dk_153 0 11 (dk_at dksX7_marry_0 10 rfl rfl)
theorem dX7_marry_13 : decode cX7_marry 13 = .ok (.aload_n 0, 1) := dk_42 (dk_at dksX7_marry_0 13 rfl rfl)
theorem dX7_marry_14 : decode cX7_marry 14 = .ok (.iload_n 2, 1) := dk_28 (dk_at dksX7_marry_0 14 rfl rfl)
theorem dX7_marry_15 : decode cX7_marry 15 = .ok (.invokevirtual 333, 3) := dk_182 1 77 (dk_at dksX7_marry_0 15 rfl rfl)
theorem dX7_marry_18 : decode cX7_marry 18 = .ok (.ifCond .ne 9, 3) := dk_154 0 9 (dk_at dksX7_marry_0 18 rfl rfl)
theorem dX7_marry_21 : decode cX7_marry 21 = .ok (.aload_n 0, 1) := dk_42 (dk_at dksX7_marry_0 21 rfl rfl)
theorem dX7_marry_22 : decode cX7_marry 22 = .ok (.iconst 1, 1) := dk_4 (dk_at dksX7_marry_0 22 rfl rfl)
theorem dX7_marry_23 : decode cX7_marry 23 = .ok (.invokevirtual 360, 3) := dk_182 1 104 (dk_at dksX7_marry_1 0 rfl rfl)
theorem dX7_marry_26 : decode cX7_marry 26 = .ok (.ireturn, 1) := dk_172 (dk_at dksX7_marry_1 3 rfl rfl)
theorem dX7_marry_27 : decode cX7_marry 27 = .ok (.iload_n 1, 1) := dk_27 (dk_at dksX7_marry_1 4 rfl rfl)
theorem dX7_marry_28 : decode cX7_marry 28 = .ok (.iload_n 2, 1) := dk_28 (dk_at dksX7_marry_1 5 rfl rfl)
theorem dX7_marry_29 : decode cX7_marry 29 = .ok (.if_icmp .ne 11, 3) := dk_160 0 11 (dk_at dksX7_marry_1 6 rfl rfl)
theorem dX7_marry_32 : decode cX7_marry 32 = .ok (.aload_n 0, 1) := dk_42 (dk_at dksX7_marry_1 9 rfl rfl)
theorem dX7_marry_33 : decode cX7_marry 33 = .ok (.iconst 2, 1) := dk_5 (dk_at dksX7_marry_1 10 rfl rfl)
theorem dX7_marry_34 : decode cX7_marry 34 = .ok (.invokevirtual 360, 3) := dk_182 1 104 (dk_at dksX7_marry_1 11 rfl rfl)
theorem dX7_marry_37 : decode cX7_marry 37 = .ok (.goto 9, 3) := dk_167 0 9 (dk_at dksX7_marry_1 14 rfl rfl)
theorem dX7_marry_40 : decode cX7_marry 40 = .ok (.aload_n 0, 1) := dk_42 (dk_at dksX7_marry_1 17 rfl rfl)
theorem dX7_marry_41 : decode cX7_marry 41 = .ok (.iload_n 1, 1) := dk_27 (dk_at dksX7_marry_1 18 rfl rfl)
theorem dX7_marry_42 : decode cX7_marry 42 = .ok (.iload_n 2, 1) := dk_28 (dk_at dksX7_marry_1 19 rfl rfl)
theorem dX7_marry_43 : decode cX7_marry 43 = .ok (.invokevirtual 429, 3) := dk_182 1 173 (dk_at dksX7_marry_1 20 rfl rfl)
theorem dX7_marry_46 : decode cX7_marry 46 = .ok (.ireturn, 1) := dk_172 (dk_at dksX7_marry_1 23 rfl rfl)
abbrev cX7_canMarry : ByteArray := prog_20_method_85_code
def yX7_canMarry : MethodName := ⟨RX7, "canMarry", "(II)Z"⟩
def dkwX7_canMarry_1 : List UInt8 := [182, 1, 45, 163, 0, 7, 4, 167, 0, 4, 3, 172]
abbrev dktX7_canMarry_1 : List UInt8 := dkwX7_canMarry_1 ++ []
def dkwX7_canMarry_0 : List UInt8 := [42, 180, 0, 47, 28, 46, 42, 27, 3, 182, 1, 45, 163, 0, 22, 42, 180, 0, 47, 27, 46, 42, 28, 3]
abbrev dktX7_canMarry_0 : List UInt8 := dkwX7_canMarry_0 ++ dktX7_canMarry_1
theorem dksX7_canMarry_0 : cX7_canMarry.data.toList.drop 0 = dktX7_canMarry_0 := by decide +kernel
theorem dksX7_canMarry_1 : cX7_canMarry.data.toList.drop 24 = dktX7_canMarry_1 := dk_seg dksX7_canMarry_0 24 rfl rfl
theorem dX7_canMarry_0 : decode cX7_canMarry 0 = .ok (.aload_n 0, 1) := dk_42 (dk_at dksX7_canMarry_0 0 rfl rfl)
theorem dX7_canMarry_1 : decode cX7_canMarry 1 = .ok (.getfield 47, 3) := dk_180 0 47 (dk_at dksX7_canMarry_0 1 rfl rfl)
theorem dX7_canMarry_4 : decode cX7_canMarry 4 = .ok (.iload_n 2, 1) := dk_28 (dk_at dksX7_canMarry_0 4 rfl rfl)
theorem dX7_canMarry_5 : decode cX7_canMarry 5 = .ok (.iaload, 1) := dk_46 (dk_at dksX7_canMarry_0 5 rfl rfl)
theorem dX7_canMarry_6 : decode cX7_canMarry 6 = .ok (.aload_n 0, 1) := dk_42 (dk_at dksX7_canMarry_0 6 rfl rfl)
theorem dX7_canMarry_7 : decode cX7_canMarry 7 = .ok (.iload_n 1, 1) := dk_27 (dk_at dksX7_canMarry_0 7 rfl rfl)
theorem dX7_canMarry_8 : decode cX7_canMarry 8 = .ok (.iconst 0, 1) := dk_3 (dk_at dksX7_canMarry_0 8 rfl rfl)
theorem dX7_canMarry_9 : decode cX7_canMarry 9 = .ok (.invokevirtual 301, 3) := dk_182 1 45 (dk_at dksX7_canMarry_0 9 rfl rfl)
theorem dX7_canMarry_12 : decode cX7_canMarry 12 = .ok (.if_icmp .gt 22, 3) := dk_163 0 22 (dk_at dksX7_canMarry_0 12 rfl rfl)
theorem dX7_canMarry_15 : decode cX7_canMarry 15 = .ok (.aload_n 0, 1) := dk_42 (dk_at dksX7_canMarry_0 15 rfl rfl)
theorem dX7_canMarry_16 : decode cX7_canMarry 16 = .ok (.getfield 47, 3) := dk_180 0 47 (dk_at dksX7_canMarry_0 16 rfl rfl)
theorem dX7_canMarry_19 : decode cX7_canMarry 19 = .ok (.iload_n 1, 1) := dk_27 (dk_at dksX7_canMarry_0 19 rfl rfl)
theorem dX7_canMarry_20 : decode cX7_canMarry 20 = .ok (.iaload, 1) := dk_46 (dk_at dksX7_canMarry_0 20 rfl rfl)
theorem dX7_canMarry_21 : decode cX7_canMarry 21 = .ok (.aload_n 0, 1) := dk_42 (dk_at dksX7_canMarry_0 21 rfl rfl)
theorem dX7_canMarry_22 : decode cX7_canMarry 22 = .ok (.iload_n 2, 1) := dk_28 (dk_at dksX7_canMarry_0 22 rfl rfl)
theorem dX7_canMarry_23 : decode cX7_canMarry 23 = .ok (.iconst 0, 1) := dk_3 (dk_at dksX7_canMarry_0 23 rfl rfl)
theorem dX7_canMarry_24 : decode cX7_canMarry 24 = .ok (.invokevirtual 301, 3) := dk_182 1 45 (dk_at dksX7_canMarry_1 0 rfl rfl)
theorem dX7_canMarry_27 : decode cX7_canMarry 27 = .ok (.if_icmp .gt 7, 3) := dk_163 0 7 (dk_at dksX7_canMarry_1 3 rfl rfl)
theorem dX7_canMarry_30 : decode cX7_canMarry 30 = .ok (.iconst 1, 1) := dk_4 (dk_at dksX7_canMarry_1 6 rfl rfl)
theorem dX7_canMarry_31 : decode cX7_canMarry 31 = .ok (.goto 4, 3) := dk_167 0 4 (dk_at dksX7_canMarry_1 7 rfl rfl)
theorem dX7_canMarry_34 : decode cX7_canMarry 34 = .ok (.iconst 0, 1) := dk_3 (dk_at dksX7_canMarry_1 10 rfl rfl)
theorem dX7_canMarry_35 : decode cX7_canMarry 35 = .ok (.ireturn, 1) := dk_172 (dk_at dksX7_canMarry_1 11 rfl rfl)
abbrev cX7_marriages : ByteArray := prog_20_method_88_code
def yX7_marriages : MethodName := ⟨RX7, "marriages", "()I"⟩
def dkwX7_marriages_0 : List UInt8 := [42, 3, 181, 0, 143, 42, 4, 42, 180, 0, 42, 3, 46, 120, 4, 100, 182, 1, 176, 172]
abbrev dktX7_marriages_0 : List UInt8 := dkwX7_marriages_0 ++ []
theorem dksX7_marriages_0 : cX7_marriages.data.toList.drop 0 = dktX7_marriages_0 := by decide +kernel
theorem dX7_marriages_0 : decode cX7_marriages 0 = .ok (.aload_n 0, 1) := dk_42 (dk_at dksX7_marriages_0 0 rfl rfl)
theorem dX7_marriages_1 : decode cX7_marriages 1 = .ok (.iconst 0, 1) := dk_3 (dk_at dksX7_marriages_0 1 rfl rfl)
theorem dX7_marriages_2 : decode cX7_marriages 2 = .ok (.putfield 143, 3) := dk_181 0 143 (dk_at dksX7_marriages_0 2 rfl rfl)
theorem dX7_marriages_5 : decode cX7_marriages 5 = .ok (.aload_n 0, 1) := dk_42 (dk_at dksX7_marriages_0 5 rfl rfl)
theorem dX7_marriages_6 : decode cX7_marriages 6 = .ok (.iconst 1, 1) := dk_4 (dk_at dksX7_marriages_0 6 rfl rfl)
theorem dX7_marriages_7 : decode cX7_marriages 7 = .ok (.aload_n 0, 1) := dk_42 (dk_at dksX7_marriages_0 7 rfl rfl)
theorem dX7_marriages_8 : decode cX7_marriages 8 = .ok (.getfield 42, 3) := dk_180 0 42 (dk_at dksX7_marriages_0 8 rfl rfl)
theorem dX7_marriages_11 : decode cX7_marriages 11 = .ok (.iconst 0, 1) := dk_3 (dk_at dksX7_marriages_0 11 rfl rfl)
theorem dX7_marriages_12 : decode cX7_marriages 12 = .ok (.iaload, 1) := dk_46 (dk_at dksX7_marriages_0 12 rfl rfl)
theorem dX7_marriages_13 : decode cX7_marriages 13 = .ok (.ishl, 1) := dk_120 (dk_at dksX7_marriages_0 13 rfl rfl)
theorem dX7_marriages_14 : decode cX7_marriages 14 = .ok (.iconst 1, 1) := dk_4 (dk_at dksX7_marriages_0 14 rfl rfl)
theorem dX7_marriages_15 : decode cX7_marriages 15 = .ok (.isub, 1) := dk_100 (dk_at dksX7_marriages_0 15 rfl rfl)
theorem dX7_marriages_16 : decode cX7_marriages 16 = .ok (.invokevirtual 432, 3) := dk_182 1 176 (dk_at dksX7_marriages_0 16 rfl rfl)
theorem dX7_marriages_19 : decode cX7_marriages 19 = .ok (.ireturn, 1) := dk_172 (dk_at dksX7_marriages_0 19 rfl rfl)
