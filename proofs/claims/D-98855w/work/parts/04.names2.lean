/-! TableTower -/
set_option maxRecDepth 100000
def RX1 : String := "TableTower"
def TX1 : u_T := fun k => match k with
  | 0 => ("TableTower", "town", "LTableTower$Town;", false)
  | 1 => ("TableTower", "book", "LTableTower$Book;", true)
  | 2 => ("TableTower", "image", "LTableTower$Book;", true)
  | 3 => ("TableTower", "now", "LTableTower$State;", true)
  | 4 => ("TableTower", "tried", "LTableTower$State;", true)
  | 5 => ("TableTower", "hasImage", "Z", false)
  | 6 => ("TableTower", "tape", "[B", true)
  | 7 => ("TableTower", "taped", "I", false)
  | 8 => ("TableTower", "faultPlace", "I", false)
  | 9 => ("TableTower", "ways", "[J", true)
  | 10 => ("TableTower", "row", "[I", true)
  | 11 => ("TableTower", "keptWedges", "[I", true)
  | 12 => ("TableTower", "couples", "[I", true)
  | 13 => ("TableTower", "isTilt", "[Z", true)
  | _ => ("TableTower", "its", "I", false)
def tyX1 : Nat → FieldType := fun k => match k with
  | 0 => .object "TableTower$Town"
  | 1 => .object "TableTower$Book"
  | 2 => .object "TableTower$Book"
  | 3 => .object "TableTower$State"
  | 4 => .object "TableTower$State"
  | 5 => .boolean
  | 6 => .array .byte
  | 7 => .int
  | 8 => .int
  | 9 => .array .long
  | 10 => .array .int
  | 11 => .array .int
  | 12 => .array .int
  | 13 => .array .boolean
  | _ => .int
abbrev wsX10 : List Cond := u_ws RX1 TX1 15
set_option maxRecDepth 100000 in
theorem nmX1 : ∀ a, a < 15 → ∀ b, b < 15 → a ≠ b → (TX1 a).2.1 ≠ (TX1 b).2.1 := by decide +kernel
set_option maxRecDepth 100000 in
theorem tyX1_ok : ∀ k, k < 15 → parseFieldDescriptor (TX1 k).2.2.1 = some (tyX1 k) := by decide +kernel
abbrev cX1_init : ByteArray := prog_1_method_1_code
def yX1_init : MethodName := ⟨RX1, "<init>", "()V"⟩
def dkwX1_init_5 : List UInt8 := [181, 0, 59, 42, 180, 0, 30, 42, 180, 0, 10, 182, 0, 63, 177]
abbrev dktX1_init_5 : List UInt8 := dkwX1_init_5 ++ []
def dkwX1_init_4 : List UInt8 := [17, 3, 42, 188, 10, 181, 0, 53, 42, 17, 4, 0, 188, 10, 181, 0, 56, 42, 17, 3, 233, 188, 4]
abbrev dktX1_init_4 : List UInt8 := dkwX1_init_4 ++ dktX1_init_5
def dkwX1_init_3 : List UInt8 := [2, 181, 0, 41, 42, 17, 4, 0, 188, 11, 181, 0, 45, 42, 16, 10, 188, 10, 181, 0, 49, 42]
abbrev dktX1_init_3 : List UInt8 := dkwX1_init_3 ++ dktX1_init_4
def dkwX1_init_2 : List UInt8 := [181, 0, 30, 42, 187, 0, 31, 89, 183, 0, 33, 181, 0, 34, 42, 17, 2, 88, 188, 8, 181, 0, 37, 42]
abbrev dktX1_init_2 : List UInt8 := dkwX1_init_2 ++ dktX1_init_3
def dkwX1_init_1 : List UInt8 := [181, 0, 19, 42, 187, 0, 16, 89, 183, 0, 18, 181, 0, 23, 42, 42, 180, 0, 19, 180, 0, 26]
abbrev dktX1_init_1 : List UInt8 := dkwX1_init_1 ++ dktX1_init_2
def dkwX1_init_0 : List UInt8 := [42, 183, 0, 1, 42, 187, 0, 7, 89, 183, 0, 9, 181, 0, 10, 42, 187, 0, 16, 89, 183, 0, 18]
abbrev dktX1_init_0 : List UInt8 := dkwX1_init_0 ++ dktX1_init_1
theorem dksX1_init_0 : cX1_init.data.toList.drop 0 = dktX1_init_0 := by decide +kernel
theorem dksX1_init_1 : cX1_init.data.toList.drop 23 = dktX1_init_1 := dk_seg dksX1_init_0 23 rfl rfl
theorem dksX1_init_2 : cX1_init.data.toList.drop 45 = dktX1_init_2 := dk_seg dksX1_init_1 22 rfl rfl
theorem dksX1_init_3 : cX1_init.data.toList.drop 69 = dktX1_init_3 := dk_seg dksX1_init_2 24 rfl rfl
theorem dksX1_init_4 : cX1_init.data.toList.drop 91 = dktX1_init_4 := dk_seg dksX1_init_3 22 rfl rfl
theorem dksX1_init_5 : cX1_init.data.toList.drop 114 = dktX1_init_5 := dk_seg dksX1_init_4 23 rfl rfl
theorem dX1_init_0 : decode cX1_init 0 = .ok (.aload_n 0, 1) := dk_42 (dk_at dksX1_init_0 0 rfl rfl)
theorem dX1_init_1 : decode cX1_init 1 = .ok (.invokespecial 1, 3) := dk_183 0 1 (dk_at dksX1_init_0 1 rfl rfl)
theorem dX1_init_4 : decode cX1_init 4 = .ok (.aload_n 0, 1) := dk_42 (dk_at dksX1_init_0 4 rfl rfl)
theorem dX1_init_5 : decode cX1_init 5 = .ok (.new 7, 3) := dk_187 0 7 (dk_at dksX1_init_0 5 rfl rfl)
theorem dX1_init_8 : decode cX1_init 8 = .ok (.dup, 1) := dk_89 (dk_at dksX1_init_0 8 rfl rfl)
theorem dX1_init_9 : decode cX1_init 9 = .ok (.invokespecial 9, 3) := dk_183 0 9 (dk_at dksX1_init_0 9 rfl rfl)
theorem dX1_init_12 : decode cX1_init 12 = .ok (.putfield 10, 3) := dk_181 0 10 (dk_at dksX1_init_0 12 rfl rfl)
theorem dX1_init_15 : decode cX1_init 15 = .ok (.aload_n 0, 1) := dk_42 (dk_at dksX1_init_0 15 rfl rfl)
theorem dX1_init_16 : decode cX1_init 16 = .ok (.new 16, 3) := dk_187 0 16 (dk_at dksX1_init_0 16 rfl rfl)
theorem dX1_init_19 : decode cX1_init 19 = .ok (.dup, 1) := dk_89 (dk_at dksX1_init_0 19 rfl rfl)
theorem dX1_init_20 : decode cX1_init 20 = .ok (.invokespecial 18, 3) := dk_183 0 18 (dk_at dksX1_init_0 20 rfl rfl)
theorem dX1_init_23 : decode cX1_init 23 = .ok (.putfield 19, 3) := dk_181 0 19 (dk_at dksX1_init_1 0 rfl rfl)
theorem dX1_init_26 : decode cX1_init 26 = .ok (.aload_n 0, 1) := dk_42 (dk_at dksX1_init_1 3 rfl rfl)
theorem dX1_init_27 : decode cX1_init 27 = .ok (.new 16, 3) := dk_187 0 16 (dk_at dksX1_init_1 4 rfl rfl)
theorem dX1_init_30 : decode cX1_init 30 = .ok (.dup, 1) := dk_89 (dk_at dksX1_init_1 7 rfl rfl)
theorem dX1_init_31 : decode cX1_init 31 = .ok (.invokespecial 18, 3) := dk_183 0 18 (dk_at dksX1_init_1 8 rfl rfl)
theorem dX1_init_34 : decode cX1_init 34 = .ok (.putfield 23, 3) := dk_181 0 23 (dk_at dksX1_init_1 11 rfl rfl)
theorem dX1_init_37 : decode cX1_init 37 = .ok (.aload_n 0, 1) := dk_42 (dk_at dksX1_init_1 14 rfl rfl)
theorem dX1_init_38 : decode cX1_init 38 = .ok (.aload_n 0, 1) := dk_42 (dk_at dksX1_init_1 15 rfl rfl)
theorem dX1_init_39 : decode cX1_init 39 = .ok (.getfield 19, 3) := dk_180 0 19 (dk_at dksX1_init_1 16 rfl rfl)
theorem dX1_init_42 : decode cX1_init 42 = .ok (.getfield 26, 3) := dk_180 0 26 (dk_at dksX1_init_1 19 rfl rfl)
theorem dX1_init_45 : decode cX1_init 45 = .ok (.putfield 30, 3) := dk_181 0 30 (dk_at dksX1_init_2 0 rfl rfl)
theorem dX1_init_48 : decode cX1_init 48 = .ok (.aload_n 0, 1) := dk_42 (dk_at dksX1_init_2 3 rfl rfl)
theorem dX1_init_49 : decode cX1_init 49 = .ok (.new 31, 3) := dk_187 0 31 (dk_at dksX1_init_2 4 rfl rfl)
theorem dX1_init_52 : decode cX1_init 52 = .ok (.dup, 1) := dk_89 (dk_at dksX1_init_2 7 rfl rfl)
theorem dX1_init_53 : decode cX1_init 53 = .ok (.invokespecial 33, 3) := dk_183 0 33 (dk_at dksX1_init_2 8 rfl rfl)
theorem dX1_init_56 : decode cX1_init 56 = .ok (.putfield 34, 3) := dk_181 0 34 (dk_at dksX1_init_2 11 rfl rfl)
theorem dX1_init_59 : decode cX1_init 59 = .ok (.aload_n 0, 1) := dk_42 (dk_at dksX1_init_2 14 rfl rfl)
theorem dX1_init_60 : decode cX1_init 60 = .ok (.sipush 600, 3) := dk_17 2 88 (dk_at dksX1_init_2 15 rfl rfl)
theorem dX1_init_63 : decode cX1_init 63 = .ok (.newarray .byte, 2) := dk_188_8 (dk_at dksX1_init_2 18 rfl rfl)
theorem dX1_init_65 : decode cX1_init 65 = .ok (.putfield 37, 3) := dk_181 0 37 (dk_at dksX1_init_2 20 rfl rfl)
theorem dX1_init_68 : decode cX1_init 68 = .ok (.aload_n 0, 1) := dk_42 (dk_at dksX1_init_2 23 rfl rfl)
theorem dX1_init_69 : decode cX1_init 69 = .ok (.iconst (-1), 1) := dk_2 (dk_at dksX1_init_3 0 rfl rfl)
theorem dX1_init_70 : decode cX1_init 70 = .ok (.putfield 41, 3) := dk_181 0 41 (dk_at dksX1_init_3 1 rfl rfl)
theorem dX1_init_73 : decode cX1_init 73 = .ok (.aload_n 0, 1) := dk_42 (dk_at dksX1_init_3 4 rfl rfl)
theorem dX1_init_74 : decode cX1_init 74 = .ok (.sipush 1024, 3) := dk_17 4 0 (dk_at dksX1_init_3 5 rfl rfl)
theorem dX1_init_77 : decode cX1_init 77 = .ok (.newarray .long, 2) := dk_188_11 (dk_at dksX1_init_3 8 rfl rfl)
theorem dX1_init_79 : decode cX1_init 79 = .ok (.putfield 45, 3) := dk_181 0 45 (dk_at dksX1_init_3 10 rfl rfl)
theorem dX1_init_82 : decode cX1_init 82 = .ok (.aload_n 0, 1) := dk_42 (dk_at dksX1_init_3 13 rfl rfl)
theorem dX1_init_83 : decode cX1_init 83 = .ok (.bipush 10, 2) := dk_16 10 (dk_at dksX1_init_3 14 rfl rfl)
theorem dX1_init_85 : decode cX1_init 85 = .ok (.newarray .int, 2) := dk_188_10 (dk_at dksX1_init_3 16 rfl rfl)
theorem dX1_init_87 : decode cX1_init 87 = .ok (.putfield 49, 3) := dk_181 0 49 (dk_at dksX1_init_3 18 rfl rfl)
theorem dX1_init_90 : decode cX1_init 90 = .ok (.aload_n 0, 1) := dk_42 (dk_at dksX1_init_3 21 rfl rfl)
theorem dX1_init_91 : decode cX1_init 91 = .ok (.sipush 810, 3) := dk_17 3 42 (dk_at dksX1_init_4 0 rfl rfl)
theorem dX1_init_94 : decode cX1_init 94 = .ok (.newarray .int, 2) := dk_188_10 (dk_at dksX1_init_4 3 rfl rfl)
theorem dX1_init_96 : decode cX1_init 96 = .ok (.putfield 53, 3) := dk_181 0 53 (dk_at dksX1_init_4 5 rfl rfl)
theorem dX1_init_99 : decode cX1_init 99 = .ok (.aload_n 0, 1) := dk_42 (dk_at dksX1_init_4 8 rfl rfl)
theorem dX1_init_100 : decode cX1_init 100 = .ok (.sipush 1024, 3) := dk_17 4 0 (dk_at dksX1_init_4 9 rfl rfl)
theorem dX1_init_103 : decode cX1_init 103 = .ok (.newarray .int, 2) := dk_188_10 (dk_at dksX1_init_4 12 rfl rfl)
theorem dX1_init_105 : decode cX1_init 105 = .ok (.putfield 56, 3) := dk_181 0 56 (dk_at dksX1_init_4 14 rfl rfl)
theorem dX1_init_108 : decode cX1_init 108 = .ok (.aload_n 0, 1) := dk_42 (dk_at dksX1_init_4 17 rfl rfl)
theorem dX1_init_109 : decode cX1_init 109 = .ok (.sipush 1001, 3) := dk_17 3 233 (dk_at dksX1_init_4 18 rfl rfl)
theorem dX1_init_112 : decode cX1_init 112 = .ok (.newarray .boolean, 2) := dk_188_4 (dk_at dksX1_init_4 21 rfl rfl)
theorem dX1_init_114 : decode cX1_init 114 = .ok (.putfield 59, 3) := dk_181 0 59 (dk_at dksX1_init_5 0 rfl rfl)
theorem dX1_init_117 : decode cX1_init 117 = .ok (.aload_n 0, 1) := dk_42 (dk_at dksX1_init_5 3 rfl rfl)
theorem dX1_init_118 : decode cX1_init 118 = .ok (.getfield 30, 3) := dk_180 0 30 (dk_at dksX1_init_5 4 rfl rfl)
theorem dX1_init_121 : decode cX1_init 121 = .ok (.aload_n 0, 1) := dk_42 (dk_at dksX1_init_5 7 rfl rfl)
theorem dX1_init_122 : decode cX1_init 122 = .ok (.getfield 10, 3) := dk_180 0 10 (dk_at dksX1_init_5 8 rfl rfl)
theorem dX1_init_125 : decode cX1_init 125 = .ok (.invokevirtual 63, 3) := dk_182 0 63 (dk_at dksX1_init_5 11 rfl rfl)
theorem dX1_init_128 : decode cX1_init 128 = .ok (.return_, 1) := dk_177 (dk_at dksX1_init_5 14 rfl rfl)
abbrev cX1_feed : ByteArray := prog_1_method_8_code
def yX1_feed : MethodName := ⟨RX1, "feed", "(IIIII)I"⟩
def dkwX1_feed_2 : List UInt8 := [172]
abbrev dktX1_feed_2 : List UInt8 := dkwX1_feed_2 ++ []
def dkwX1_feed_1 : List UInt8 := [182, 0, 101, 42, 29, 182, 0, 101, 42, 21, 4, 182, 0, 101, 42, 21, 5, 182, 0, 101, 42, 180, 0, 98]
abbrev dktX1_feed_1 : List UInt8 := dkwX1_feed_1 ++ dktX1_feed_2
def dkwX1_feed_0 : List UInt8 := [42, 180, 0, 98, 16, 20, 96, 17, 2, 88, 164, 0, 5, 2, 172, 42, 27, 182, 0, 101, 42, 28]
abbrev dktX1_feed_0 : List UInt8 := dkwX1_feed_0 ++ dktX1_feed_1
theorem dksX1_feed_0 : cX1_feed.data.toList.drop 0 = dktX1_feed_0 := by decide +kernel
theorem dksX1_feed_1 : cX1_feed.data.toList.drop 22 = dktX1_feed_1 := dk_seg dksX1_feed_0 22 rfl rfl
theorem dksX1_feed_2 : cX1_feed.data.toList.drop 46 = dktX1_feed_2 := dk_seg dksX1_feed_1 24 rfl rfl
theorem dX1_feed_0 : decode cX1_feed 0 = .ok (.aload_n 0, 1) := dk_42 (dk_at dksX1_feed_0 0 rfl rfl)
theorem dX1_feed_1 : decode cX1_feed 1 = .ok (.getfield 98, 3) := dk_180 0 98 (dk_at dksX1_feed_0 1 rfl rfl)
theorem dX1_feed_4 : decode cX1_feed 4 = .ok (.bipush 20, 2) := dk_16 20 (dk_at dksX1_feed_0 4 rfl rfl)
theorem dX1_feed_6 : decode cX1_feed 6 = .ok (.iadd, 1) := dk_96 (dk_at dksX1_feed_0 6 rfl rfl)
theorem dX1_feed_7 : decode cX1_feed 7 = .ok (.sipush 600, 3) := dk_17 2 88 (dk_at dksX1_feed_0 7 rfl rfl)
theorem dX1_feed_10 : decode cX1_feed 10 = .ok (.if_icmp .le 5, 3) := dk_164 0 5 (dk_at dksX1_feed_0 10 rfl rfl)
theorem dX1_feed_13 : decode cX1_feed 13 = .ok (.iconst (-1), 1) := dk_2 (dk_at dksX1_feed_0 13 rfl rfl)
theorem dX1_feed_14 : decode cX1_feed 14 = .ok (.ireturn, 1) := dk_172 (dk_at dksX1_feed_0 14 rfl rfl)
theorem dX1_feed_15 : decode cX1_feed 15 = .ok (.aload_n 0, 1) := dk_42 (dk_at dksX1_feed_0 15 rfl rfl)
theorem dX1_feed_16 : decode cX1_feed 16 = .ok (.iload_n 1, 1) := dk_27 (dk_at dksX1_feed_0 16 rfl rfl)
theorem dX1_feed_17 : decode cX1_feed 17 = .ok (.invokevirtual 101, 3) := dk_182 0 101 (dk_at dksX1_feed_0 17 rfl rfl)
theorem dX1_feed_20 : decode cX1_feed 20 = .ok (.aload_n 0, 1) := dk_42 (dk_at dksX1_feed_0 20 rfl rfl)
theorem dX1_feed_21 : decode cX1_feed 21 = .ok (.iload_n 2, 1) := dk_28 (dk_at dksX1_feed_0 21 rfl rfl)
theorem dX1_feed_22 : decode cX1_feed 22 = .ok (.invokevirtual 101, 3) := dk_182 0 101 (dk_at dksX1_feed_1 0 rfl rfl)
theorem dX1_feed_25 : decode cX1_feed 25 = .ok (.aload_n 0, 1) := dk_42 (dk_at dksX1_feed_1 3 rfl rfl)
theorem dX1_feed_26 : decode cX1_feed 26 = .ok (.iload_n 3, 1) := dk_29 (dk_at dksX1_feed_1 4 rfl rfl)
theorem dX1_feed_27 : decode cX1_feed 27 = .ok (.invokevirtual 101, 3) := dk_182 0 101 (dk_at dksX1_feed_1 5 rfl rfl)
theorem dX1_feed_30 : decode cX1_feed 30 = .ok (.aload_n 0, 1) := dk_42 (dk_at dksX1_feed_1 8 rfl rfl)
theorem dX1_feed_31 : decode cX1_feed 31 = .ok (.iload 4, 2) := dk_21 4 (dk_at dksX1_feed_1 9 rfl rfl)
theorem dX1_feed_33 : decode cX1_feed 33 = .ok (.invokevirtual 101, 3) := dk_182 0 101 (dk_at dksX1_feed_1 11 rfl rfl)
theorem dX1_feed_36 : decode cX1_feed 36 = .ok (.aload_n 0, 1) := dk_42 (dk_at dksX1_feed_1 14 rfl rfl)
theorem dX1_feed_37 : decode cX1_feed 37 = .ok (.iload 5, 2) := dk_21 5 (dk_at dksX1_feed_1 15 rfl rfl)
theorem dX1_feed_39 : decode cX1_feed 39 = .ok (.invokevirtual 101, 3) := dk_182 0 101 (dk_at dksX1_feed_1 17 rfl rfl)
theorem dX1_feed_42 : decode cX1_feed 42 = .ok (.aload_n 0, 1) := dk_42 (dk_at dksX1_feed_1 20 rfl rfl)
theorem dX1_feed_43 : decode cX1_feed 43 = .ok (.getfield 98, 3) := dk_180 0 98 (dk_at dksX1_feed_1 21 rfl rfl)
theorem dX1_feed_46 : decode cX1_feed 46 = .ok (.ireturn, 1) := dk_172 (dk_at dksX1_feed_2 0 rfl rfl)
abbrev cX1_lay : ByteArray := prog_1_method_9_code
def yX1_lay : MethodName := ⟨RX1, "lay", "(I)V"⟩
def dkwX1_lay_1 : List UInt8 := [180, 0, 98, 4, 96, 181, 0, 98, 132, 2, 248, 167, 255, 226, 177]
abbrev dktX1_lay_1 : List UInt8 := dkwX1_lay_1 ++ []
def dkwX1_lay_0 : List UInt8 := [16, 24, 61, 28, 155, 0, 32, 42, 180, 0, 37, 42, 180, 0, 98, 27, 28, 122, 145, 84, 42, 89]
abbrev dktX1_lay_0 : List UInt8 := dkwX1_lay_0 ++ dktX1_lay_1
theorem dksX1_lay_0 : cX1_lay.data.toList.drop 0 = dktX1_lay_0 := by decide +kernel
theorem dksX1_lay_1 : cX1_lay.data.toList.drop 22 = dktX1_lay_1 := dk_seg dksX1_lay_0 22 rfl rfl
theorem dX1_lay_0 : decode cX1_lay 0 = .ok (.bipush 24, 2) := dk_16 24 (dk_at dksX1_lay_0 0 rfl rfl)
theorem dX1_lay_2 : decode cX1_lay 2 = .ok (.istore_n 2, 1) := dk_61 (dk_at dksX1_lay_0 2 rfl rfl)
theorem dX1_lay_3 : decode cX1_lay 3 = .ok (.iload_n 2, 1) := dk_28 (dk_at dksX1_lay_0 3 rfl rfl)
theorem dX1_lay_4 : decode cX1_lay 4 = .ok (.ifCond .lt 32, 3) := dk_155 0 32 (dk_at dksX1_lay_0 4 rfl rfl)
theorem dX1_lay_7 : decode cX1_lay 7 = .ok (.aload_n 0, 1) := dk_42 (dk_at dksX1_lay_0 7 rfl rfl)
theorem dX1_lay_8 : decode cX1_lay 8 = .ok (.getfield 37, 3) := dk_180 0 37 (dk_at dksX1_lay_0 8 rfl rfl)
theorem dX1_lay_11 : decode cX1_lay 11 = .ok (.aload_n 0, 1) := dk_42 (dk_at dksX1_lay_0 11 rfl rfl)
theorem dX1_lay_12 : decode cX1_lay 12 = .ok (.getfield 98, 3) := dk_180 0 98 (dk_at dksX1_lay_0 12 rfl rfl)
theorem dX1_lay_15 : decode cX1_lay 15 = .ok (.iload_n 1, 1) := dk_27 (dk_at dksX1_lay_0 15 rfl rfl)
theorem dX1_lay_16 : decode cX1_lay 16 = .ok (.iload_n 2, 1) := dk_28 (dk_at dksX1_lay_0 16 rfl rfl)
theorem dX1_lay_17 : decode cX1_lay 17 = .ok (.ishr, 1) := dk_122 (dk_at dksX1_lay_0 17 rfl rfl)
theorem dX1_lay_18 : decode cX1_lay 18 = .ok (.i2b, 1) := dk_145 (dk_at dksX1_lay_0 18 rfl rfl)
theorem dX1_lay_19 : decode cX1_lay 19 = .ok (.bastore, 1) := dk_84 (dk_at dksX1_lay_0 19 rfl rfl)
theorem dX1_lay_20 : decode cX1_lay 20 = .ok (.aload_n 0, 1) := dk_42 (dk_at dksX1_lay_0 20 rfl rfl)
theorem dX1_lay_21 : decode cX1_lay 21 = .ok (.dup, 1) := dk_89 (dk_at dksX1_lay_0 21 rfl rfl)
theorem dX1_lay_22 : decode cX1_lay 22 = .ok (.getfield 98, 3) := dk_180 0 98 (dk_at dksX1_lay_1 0 rfl rfl)
theorem dX1_lay_25 : decode cX1_lay 25 = .ok (.iconst 1, 1) := dk_4 (dk_at dksX1_lay_1 3 rfl rfl)
theorem dX1_lay_26 : decode cX1_lay 26 = .ok (.iadd, 1) := dk_96 (dk_at dksX1_lay_1 4 rfl rfl)
theorem dX1_lay_27 : decode cX1_lay 27 = .ok (.putfield 98, 3) := dk_181 0 98 (dk_at dksX1_lay_1 5 rfl rfl)
theorem dX1_lay_30 : decode cX1_lay 30 = .ok (.iinc 2 (-8), 3) := dk_132 2 248 (dk_at dksX1_lay_1 8 rfl rfl)
theorem dX1_lay_33 : decode cX1_lay 33 = .ok (.goto (-30), 3) := dk_167 255 226 (dk_at dksX1_lay_1 11 rfl rfl)
theorem dX1_lay_36 : decode cX1_lay 36 = .ok (.return_, 1) := dk_177 (dk_at dksX1_lay_1 14 rfl rfl)
abbrev cX1_fault : ByteArray := prog_1_method_11_code
def yX1_fault : MethodName := ⟨RX1, "fault", "()I"⟩
theorem dX1_fault_0 : decode cX1_fault 0 = .ok (.aload_n 0, 1) := by decide +kernel
theorem dX1_fault_1 : decode cX1_fault 1 = .ok (.getfield 41, 3) := by decide +kernel
theorem dX1_fault_4 : decode cX1_fault 4 = .ok (.ireturn, 1) := by decide +kernel
abbrev cX1_by : ByteArray := prog_1_method_15_code
def yX1_by : MethodName := ⟨RX1, "by", "()I"⟩
def dkwX1_by_1 : List UInt8 := [27, 4, 28, 120, 128, 60, 132, 2, 1, 167, 255, 227, 27, 172]
abbrev dktX1_by_1 : List UInt8 := dkwX1_by_1 ++ []
def dkwX1_by_0 : List UInt8 := [3, 60, 3, 61, 28, 42, 182, 0, 83, 162, 0, 27, 42, 180, 0, 30, 28, 182, 0, 189, 2, 160, 0, 9]
abbrev dktX1_by_0 : List UInt8 := dkwX1_by_0 ++ dktX1_by_1
theorem dksX1_by_0 : cX1_by.data.toList.drop 0 = dktX1_by_0 := by decide +kernel
theorem dksX1_by_1 : cX1_by.data.toList.drop 24 = dktX1_by_1 := dk_seg dksX1_by_0 24 rfl rfl
theorem dX1_by_0 : decode cX1_by 0 = .ok (.iconst 0, 1) := dk_3 (dk_at dksX1_by_0 0 rfl rfl)
theorem dX1_by_1 : decode cX1_by 1 = .ok (.istore_n 1, 1) := dk_60 (dk_at dksX1_by_0 1 rfl rfl)
theorem dX1_by_2 : decode cX1_by 2 = .ok (.iconst 0, 1) := dk_3 (dk_at dksX1_by_0 2 rfl rfl)
theorem dX1_by_3 : decode cX1_by 3 = .ok (.istore_n 2, 1) := dk_61 (dk_at dksX1_by_0 3 rfl rfl)
theorem dX1_by_4 : decode cX1_by 4 = .ok (.iload_n 2, 1) := dk_28 (dk_at dksX1_by_0 4 rfl rfl)
theorem dX1_by_5 : decode cX1_by 5 = .ok (.aload_n 0, 1) := dk_42 (dk_at dksX1_by_0 5 rfl rfl)
theorem dX1_by_6 : decode cX1_by 6 = .ok (.invokevirtual 83, 3) := dk_182 0 83 (dk_at dksX1_by_0 6 rfl rfl)
theorem dX1_by_9 : decode cX1_by 9 = .ok (.if_icmp .ge 27, 3) := dk_162 0 27 (dk_at dksX1_by_0 9 rfl rfl)
theorem dX1_by_12 : decode cX1_by 12 = .ok (.aload_n 0, 1) := dk_42 (dk_at dksX1_by_0 12 rfl rfl)
theorem dX1_by_13 : decode cX1_by 13 = .ok (.getfield 30, 3) := dk_180 0 30 (dk_at dksX1_by_0 13 rfl rfl)
theorem dX1_by_16 : decode cX1_by 16 = .ok (.iload_n 2, 1) := dk_28 (dk_at dksX1_by_0 16 rfl rfl)
theorem dX1_by_17 : decode cX1_by 17 = .ok (.invokevirtual 189, 3) := dk_182 0 189 (dk_at dksX1_by_0 17 rfl rfl)
theorem dX1_by_20 : decode cX1_by 20 = .ok (.iconst (-1), 1) := dk_2 (dk_at dksX1_by_0 20 rfl rfl)
theorem dX1_by_21 : decode cX1_by 21 = .ok (.if_icmp .ne 9, 3) := dk_160 0 9 (dk_at dksX1_by_0 21 rfl rfl)
theorem dX1_by_24 : decode cX1_by 24 = .ok (.iload_n 1, 1) := dk_27 (dk_at dksX1_by_1 0 rfl rfl)
theorem dX1_by_25 : decode cX1_by 25 = .ok (.iconst 1, 1) := dk_4 (dk_at dksX1_by_1 1 rfl rfl)
theorem dX1_by_26 : decode cX1_by 26 = .ok (.iload_n 2, 1) := dk_28 (dk_at dksX1_by_1 2 rfl rfl)
theorem dX1_by_27 : decode cX1_by 27 = .ok (.ishl, 1) := dk_120 (dk_at dksX1_by_1 3 rfl rfl)
theorem dX1_by_28 : decode cX1_by 28 = .ok (.ior, 1) := dk_128 (dk_at dksX1_by_1 4 rfl rfl)
theorem dX1_by_29 : decode cX1_by 29 = .ok (.istore_n 1, 1) := dk_60 (dk_at dksX1_by_1 5 rfl rfl)
theorem dX1_by_30 : decode cX1_by 30 = .ok (.iinc 2 1, 3) := dk_132 2 1 (dk_at dksX1_by_1 6 rfl rfl)
theorem dX1_by_33 : decode cX1_by 33 = .ok (.goto (-29), 3) := dk_167 255 227 (dk_at dksX1_by_1 9 rfl rfl)
theorem dX1_by_36 : decode cX1_by 36 = .ok (.iload_n 1, 1) := dk_27 (dk_at dksX1_by_1 12 rfl rfl)
theorem dX1_by_37 : decode cX1_by 37 = .ok (.ireturn, 1) := dk_172 (dk_at dksX1_by_1 13 rfl rfl)
abbrev cX1_tables : ByteArray := prog_1_method_5_code
def yX1_tables : MethodName := ⟨RX1, "tables", "()I"⟩
def dkwX1_tables_0 : List UInt8 := [42, 180, 0, 10, 180, 0, 73, 182, 0, 77, 172]
abbrev dktX1_tables_0 : List UInt8 := dkwX1_tables_0 ++ []
theorem dksX1_tables_0 : cX1_tables.data.toList.drop 0 = dktX1_tables_0 := by decide +kernel
theorem dX1_tables_0 : decode cX1_tables 0 = .ok (.aload_n 0, 1) := dk_42 (dk_at dksX1_tables_0 0 rfl rfl)
theorem dX1_tables_1 : decode cX1_tables 1 = .ok (.getfield 10, 3) := dk_180 0 10 (dk_at dksX1_tables_0 1 rfl rfl)
theorem dX1_tables_4 : decode cX1_tables 4 = .ok (.getfield 73, 3) := dk_180 0 73 (dk_at dksX1_tables_0 4 rfl rfl)
theorem dX1_tables_7 : decode cX1_tables 7 = .ok (.invokevirtual 77, 3) := dk_182 0 77 (dk_at dksX1_tables_0 7 rfl rfl)
theorem dX1_tables_10 : decode cX1_tables 10 = .ok (.ireturn, 1) := dk_172 (dk_at dksX1_tables_0 10 rfl rfl)
abbrev cX1_supper : ByteArray := prog_1_method_24_code
def yX1_supper : MethodName := ⟨RX1, "supper", "()I"⟩
def dkwX1_supper_1 : List UInt8 := [180, 0, 144, 182, 0, 233, 181, 0, 155, 42, 180, 0, 30, 180, 0, 155, 172]
abbrev dktX1_supper_1 : List UInt8 := dkwX1_supper_1 ++ []
def dkwX1_supper_0 : List UInt8 := [42, 180, 0, 19, 182, 0, 212, 42, 180, 0, 30, 42, 180, 0, 30, 42, 180, 0, 10, 42, 180, 0, 10]
abbrev dktX1_supper_0 : List UInt8 := dkwX1_supper_0 ++ dktX1_supper_1
theorem dksX1_supper_0 : cX1_supper.data.toList.drop 0 = dktX1_supper_0 := by decide +kernel
theorem dksX1_supper_1 : cX1_supper.data.toList.drop 23 = dktX1_supper_1 := dk_seg dksX1_supper_0 23 rfl rfl
theorem dX1_supper_0 : decode cX1_supper 0 = .ok (.aload_n 0, 1) := dk_42 (dk_at dksX1_supper_0 0 rfl rfl)
theorem dX1_supper_1 : decode cX1_supper 1 = .ok (.getfield 19, 3) := dk_180 0 19 (dk_at dksX1_supper_0 1 rfl rfl)
theorem dX1_supper_4 : decode cX1_supper 4 = .ok (.invokevirtual 212, 3) := dk_182 0 212 (dk_at dksX1_supper_0 4 rfl rfl)
theorem dX1_supper_7 : decode cX1_supper 7 = .ok (.aload_n 0, 1) := dk_42 (dk_at dksX1_supper_0 7 rfl rfl)
theorem dX1_supper_8 : decode cX1_supper 8 = .ok (.getfield 30, 3) := dk_180 0 30 (dk_at dksX1_supper_0 8 rfl rfl)
theorem dX1_supper_11 : decode cX1_supper 11 = .ok (.aload_n 0, 1) := dk_42 (dk_at dksX1_supper_0 11 rfl rfl)
theorem dX1_supper_12 : decode cX1_supper 12 = .ok (.getfield 30, 3) := dk_180 0 30 (dk_at dksX1_supper_0 12 rfl rfl)
theorem dX1_supper_15 : decode cX1_supper 15 = .ok (.aload_n 0, 1) := dk_42 (dk_at dksX1_supper_0 15 rfl rfl)
theorem dX1_supper_16 : decode cX1_supper 16 = .ok (.getfield 10, 3) := dk_180 0 10 (dk_at dksX1_supper_0 16 rfl rfl)
theorem dX1_supper_19 : decode cX1_supper 19 = .ok (.aload_n 0, 1) := dk_42 (dk_at dksX1_supper_0 19 rfl rfl)
theorem dX1_supper_20 : decode cX1_supper 20 = .ok (.getfield 10, 3) := dk_180 0 10 (dk_at dksX1_supper_0 20 rfl rfl)
theorem dX1_supper_23 : decode cX1_supper 23 = .ok (.getfield 144, 3) := dk_180 0 144 (dk_at dksX1_supper_1 0 rfl rfl)
theorem dX1_supper_26 : decode cX1_supper 26 = .ok (.invokevirtual 233, 3) := dk_182 0 233 (dk_at dksX1_supper_1 3 rfl rfl)
theorem dX1_supper_29 : decode cX1_supper 29 = .ok (.putfield 155, 3) := dk_181 0 155 (dk_at dksX1_supper_1 6 rfl rfl)
theorem dX1_supper_32 : decode cX1_supper 32 = .ok (.aload_n 0, 1) := dk_42 (dk_at dksX1_supper_1 9 rfl rfl)
theorem dX1_supper_33 : decode cX1_supper 33 = .ok (.getfield 30, 3) := dk_180 0 30 (dk_at dksX1_supper_1 10 rfl rfl)
theorem dX1_supper_36 : decode cX1_supper 36 = .ok (.getfield 155, 3) := dk_180 0 155 (dk_at dksX1_supper_1 13 rfl rfl)
theorem dX1_supper_39 : decode cX1_supper 39 = .ok (.ireturn, 1) := dk_172 (dk_at dksX1_supper_1 16 rfl rfl)
abbrev cX1_years : ByteArray := prog_1_method_25_code
def yX1_years : MethodName := ⟨RX1, "years", "(I)I"⟩
def dkwX1_years_2 : List UInt8 := [27, 96, 181, 0, 161, 42, 180, 0, 30, 180, 0, 161, 172]
abbrev dktX1_years_2 : List UInt8 := dkwX1_years_2 ++ []
def dkwX1_years_1 : List UInt8 := [163, 0, 7, 4, 167, 0, 4, 3, 182, 0, 218, 154, 0, 5, 2, 172, 42, 180, 0, 30, 89, 180, 0, 161]
abbrev dktX1_years_1 : List UInt8 := dkwX1_years_1 ++ dktX1_years_2
def dkwX1_years_0 : List UInt8 := [42, 27, 4, 16, 30, 184, 0, 137, 153, 0, 22, 42, 180, 0, 30, 180, 0, 161, 27, 96, 17, 3, 231]
abbrev dktX1_years_0 : List UInt8 := dkwX1_years_0 ++ dktX1_years_1
theorem dksX1_years_0 : cX1_years.data.toList.drop 0 = dktX1_years_0 := by decide +kernel
theorem dksX1_years_1 : cX1_years.data.toList.drop 23 = dktX1_years_1 := dk_seg dksX1_years_0 23 rfl rfl
theorem dksX1_years_2 : cX1_years.data.toList.drop 47 = dktX1_years_2 := dk_seg dksX1_years_1 24 rfl rfl
theorem dX1_years_0 : decode cX1_years 0 = .ok (.aload_n 0, 1) := dk_42 (dk_at dksX1_years_0 0 rfl rfl)
theorem dX1_years_1 : decode cX1_years 1 = .ok (.iload_n 1, 1) := dk_27 (dk_at dksX1_years_0 1 rfl rfl)
theorem dX1_years_2 : decode cX1_years 2 = .ok (.iconst 1, 1) := dk_4 (dk_at dksX1_years_0 2 rfl rfl)
theorem dX1_years_3 : decode cX1_years 3 = .ok (.bipush 30, 2) := dk_16 30 (dk_at dksX1_years_0 3 rfl rfl)
theorem dX1_years_5 : decode cX1_years 5 = .ok (.invokestatic 137, 3) := dk_184 0 137 (dk_at dksX1_years_0 5 rfl rfl)
theorem dX1_years_8 : decode cX1_years 8 = .ok (.ifCond .eq 22, 3) := dk_153 0 22 (dk_at dksX1_years_0 8 rfl rfl)
theorem dX1_years_11 : decode cX1_years 11 = .ok (.aload_n 0, 1) := dk_42 (dk_at dksX1_years_0 11 rfl rfl)
theorem dX1_years_12 : decode cX1_years 12 = .ok (.getfield 30, 3) := dk_180 0 30 (dk_at dksX1_years_0 12 rfl rfl)
theorem dX1_years_15 : decode cX1_years 15 = .ok (.getfield 161, 3) := dk_180 0 161 (dk_at dksX1_years_0 15 rfl rfl)
theorem dX1_years_18 : decode cX1_years 18 = .ok (.iload_n 1, 1) := dk_27 (dk_at dksX1_years_0 18 rfl rfl)
theorem dX1_years_19 : decode cX1_years 19 = .ok (.iadd, 1) := dk_96 (dk_at dksX1_years_0 19 rfl rfl)
theorem dX1_years_20 : decode cX1_years 20 = .ok (.sipush 999, 3) := dk_17 3 231 (dk_at dksX1_years_0 20 rfl rfl)
theorem dX1_years_23 : decode cX1_years 23 = .ok (.if_icmp .gt 7, 3) := dk_163 0 7 (dk_at dksX1_years_1 0 rfl rfl)
theorem dX1_years_26 : decode cX1_years 26 = .ok (.iconst 1, 1) := dk_4 (dk_at dksX1_years_1 3 rfl rfl)
theorem dX1_years_27 : decode cX1_years 27 = .ok (.goto 4, 3) := dk_167 0 4 (dk_at dksX1_years_1 4 rfl rfl)
theorem dX1_years_30 : decode cX1_years 30 = .ok (.iconst 0, 1) := dk_3 (dk_at dksX1_years_1 7 rfl rfl)
theorem dX1_years_31 : decode cX1_years 31 = .ok (.invokevirtual 218, 3) := dk_182 0 218 (dk_at dksX1_years_1 8 rfl rfl)
theorem dX1_years_34 : decode cX1_years 34 = .ok (.ifCond .ne 5, 3) := dk_154 0 5 (dk_at dksX1_years_1 11 rfl rfl)
theorem dX1_years_37 : decode cX1_years 37 = .ok (.iconst (-1), 1) := dk_2 (dk_at dksX1_years_1 14 rfl rfl)
theorem dX1_years_38 : decode cX1_years 38 = .ok (.ireturn, 1) := dk_172 (dk_at dksX1_years_1 15 rfl rfl)
theorem dX1_years_39 : decode cX1_years 39 = .ok (.aload_n 0, 1) := dk_42 (dk_at dksX1_years_1 16 rfl rfl)
theorem dX1_years_40 : decode cX1_years 40 = .ok (.getfield 30, 3) := dk_180 0 30 (dk_at dksX1_years_1 17 rfl rfl)
theorem dX1_years_43 : decode cX1_years 43 = .ok (.dup, 1) := dk_89 (dk_at dksX1_years_1 20 rfl rfl)
theorem dX1_years_44 : decode cX1_years 44 = .ok (.getfield 161, 3) := dk_180 0 161 (dk_at dksX1_years_1 21 rfl rfl)
theorem dX1_years_47 : decode cX1_years 47 = .ok (.iload_n 1, 1) := dk_27 (dk_at dksX1_years_2 0 rfl rfl)
theorem dX1_years_48 : decode cX1_years 48 = .ok (.iadd, 1) := dk_96 (dk_at dksX1_years_2 1 rfl rfl)
theorem dX1_years_49 : decode cX1_years 49 = .ok (.putfield 161, 3) := dk_181 0 161 (dk_at dksX1_years_2 2 rfl rfl)
theorem dX1_years_52 : decode cX1_years 52 = .ok (.aload_n 0, 1) := dk_42 (dk_at dksX1_years_2 5 rfl rfl)
theorem dX1_years_53 : decode cX1_years 53 = .ok (.getfield 30, 3) := dk_180 0 30 (dk_at dksX1_years_2 6 rfl rfl)
theorem dX1_years_56 : decode cX1_years 56 = .ok (.getfield 161, 3) := dk_180 0 161 (dk_at dksX1_years_2 9 rfl rfl)
theorem dX1_years_59 : decode cX1_years 59 = .ok (.ireturn, 1) := dk_172 (dk_at dksX1_years_2 12 rfl rfl)
abbrev cX1_within : ByteArray := prog_1_method_4_code
def yX1_within : MethodName := ⟨RX1, "within", "(III)Z"⟩
def dkwX1_within_0 : List UInt8 := [26, 27, 161, 0, 12, 26, 28, 163, 0, 7, 4, 167, 0, 4, 3, 172]
abbrev dktX1_within_0 : List UInt8 := dkwX1_within_0 ++ []
theorem dksX1_within_0 : cX1_within.data.toList.drop 0 = dktX1_within_0 := by decide +kernel
theorem dX1_within_0 : decode cX1_within 0 = .ok (.iload_n 0, 1) := dk_26 (dk_at dksX1_within_0 0 rfl rfl)
theorem dX1_within_1 : decode cX1_within 1 = .ok (.iload_n 1, 1) := dk_27 (dk_at dksX1_within_0 1 rfl rfl)
theorem dX1_within_2 : decode cX1_within 2 = .ok (.if_icmp .lt 12, 3) := dk_161 0 12 (dk_at dksX1_within_0 2 rfl rfl)
theorem dX1_within_5 : decode cX1_within 5 = .ok (.iload_n 0, 1) := dk_26 (dk_at dksX1_within_0 5 rfl rfl)
theorem dX1_within_6 : decode cX1_within 6 = .ok (.iload_n 2, 1) := dk_28 (dk_at dksX1_within_0 6 rfl rfl)
theorem dX1_within_7 : decode cX1_within 7 = .ok (.if_icmp .gt 7, 3) := dk_163 0 7 (dk_at dksX1_within_0 7 rfl rfl)
theorem dX1_within_10 : decode cX1_within 10 = .ok (.iconst 1, 1) := dk_4 (dk_at dksX1_within_0 10 rfl rfl)
theorem dX1_within_11 : decode cX1_within 11 = .ok (.goto 4, 3) := dk_167 0 4 (dk_at dksX1_within_0 11 rfl rfl)
theorem dX1_within_14 : decode cX1_within 14 = .ok (.iconst 0, 1) := dk_3 (dk_at dksX1_within_0 14 rfl rfl)
theorem dX1_within_15 : decode cX1_within 15 = .ok (.ireturn, 1) := dk_172 (dk_at dksX1_within_0 15 rfl rfl)
abbrev cX1_does : ByteArray := prog_1_method_17_code
def yX1_does : MethodName := ⟨RX1, "does", "(Z)Z"⟩
def dkwX1_does_0 : List UInt8 := [27, 153, 0, 13, 42, 180, 0, 19, 182, 0, 212, 167, 0, 9, 42, 4, 182, 0, 215, 87, 27, 172]
abbrev dktX1_does_0 : List UInt8 := dkwX1_does_0 ++ []
theorem dksX1_does_0 : cX1_does.data.toList.drop 0 = dktX1_does_0 := by decide +kernel
theorem dX1_does_0 : decode cX1_does 0 = .ok (.iload_n 1, 1) := dk_27 (dk_at dksX1_does_0 0 rfl rfl)
theorem dX1_does_1 : decode cX1_does 1 = .ok (.ifCond .eq 13, 3) := dk_153 0 13 (dk_at dksX1_does_0 1 rfl rfl)
theorem dX1_does_4 : decode cX1_does 4 = .ok (.aload_n 0, 1) := dk_42 (dk_at dksX1_does_0 4 rfl rfl)
theorem dX1_does_5 : decode cX1_does 5 = .ok (.getfield 19, 3) := dk_180 0 19 (dk_at dksX1_does_0 5 rfl rfl)
theorem dX1_does_8 : decode cX1_does 8 = .ok (.invokevirtual 212, 3) := dk_182 0 212 (dk_at dksX1_does_0 8 rfl rfl)
theorem dX1_does_11 : decode cX1_does 11 = .ok (.goto 9, 3) := dk_167 0 9 (dk_at dksX1_does_0 11 rfl rfl)
theorem dX1_does_14 : decode cX1_does 14 = .ok (.aload_n 0, 1) := dk_42 (dk_at dksX1_does_0 14 rfl rfl)
theorem dX1_does_15 : decode cX1_does 15 = .ok (.iconst 1, 1) := dk_4 (dk_at dksX1_does_0 15 rfl rfl)
theorem dX1_does_16 : decode cX1_does 16 = .ok (.invokevirtual 215, 3) := dk_182 0 215 (dk_at dksX1_does_0 16 rfl rfl)
theorem dX1_does_19 : decode cX1_does 19 = .ok (.pop, 1) := dk_87 (dk_at dksX1_does_0 19 rfl rfl)
theorem dX1_does_20 : decode cX1_does 20 = .ok (.iload_n 1, 1) := dk_27 (dk_at dksX1_does_0 20 rfl rfl)
theorem dX1_does_21 : decode cX1_does 21 = .ok (.ireturn, 1) := dk_172 (dk_at dksX1_does_0 21 rfl rfl)
abbrev cX1_refuses : ByteArray := prog_1_method_16_code
def yX1_refuses : MethodName := ⟨RX1, "refuses", "(I)I"⟩
def dkwX1_refuses_0 : List UInt8 := [42, 180, 0, 19, 180, 0, 121, 27, 92, 46, 4, 96, 79, 2, 172]
abbrev dktX1_refuses_0 : List UInt8 := dkwX1_refuses_0 ++ []
theorem dksX1_refuses_0 : cX1_refuses.data.toList.drop 0 = dktX1_refuses_0 := by decide +kernel
theorem dX1_refuses_0 : decode cX1_refuses 0 = .ok (.aload_n 0, 1) := dk_42 (dk_at dksX1_refuses_0 0 rfl rfl)
theorem dX1_refuses_1 : decode cX1_refuses 1 = .ok (.getfield 19, 3) := dk_180 0 19 (dk_at dksX1_refuses_0 1 rfl rfl)
theorem dX1_refuses_4 : decode cX1_refuses 4 = .ok (.getfield 121, 3) := dk_180 0 121 (dk_at dksX1_refuses_0 4 rfl rfl)
theorem dX1_refuses_7 : decode cX1_refuses 7 = .ok (.iload_n 1, 1) := dk_27 (dk_at dksX1_refuses_0 7 rfl rfl)
theorem dX1_refuses_8 : decode cX1_refuses 8 = .ok (.dup2, 1) := dk_92 (dk_at dksX1_refuses_0 8 rfl rfl)
theorem dX1_refuses_9 : decode cX1_refuses 9 = .ok (.iaload, 1) := dk_46 (dk_at dksX1_refuses_0 9 rfl rfl)
theorem dX1_refuses_10 : decode cX1_refuses 10 = .ok (.iconst 1, 1) := dk_4 (dk_at dksX1_refuses_0 10 rfl rfl)
theorem dX1_refuses_11 : decode cX1_refuses 11 = .ok (.iadd, 1) := dk_96 (dk_at dksX1_refuses_0 11 rfl rfl)
theorem dX1_refuses_12 : decode cX1_refuses 12 = .ok (.iastore, 1) := dk_79 (dk_at dksX1_refuses_0 12 rfl rfl)
theorem dX1_refuses_13 : decode cX1_refuses 13 = .ok (.iconst (-1), 1) := dk_2 (dk_at dksX1_refuses_0 13 rfl rfl)
theorem dX1_refuses_14 : decode cX1_refuses 14 = .ok (.ireturn, 1) := dk_172 (dk_at dksX1_refuses_0 14 rfl rfl)
abbrev cX1_undo : ByteArray := prog_1_method_26_code
def yX1_undo : MethodName := ⟨RX1, "undo", "()I"⟩
def dkwX1_undo_2 : List UInt8 := [192, 0, 31, 182, 0, 239, 42, 180, 0, 19, 180, 0, 127, 172]
abbrev dktX1_undo_2 : List UInt8 := dkwX1_undo_2 ++ []
def dkwX1_undo_1 : List UInt8 := [181, 0, 127, 42, 180, 0, 30, 42, 180, 0, 19, 180, 0, 236, 42, 180, 0, 19, 180, 0, 127, 182, 0, 89]
abbrev dktX1_undo_1 : List UInt8 := dkwX1_undo_1 ++ dktX1_undo_2
def dkwX1_undo_0 : List UInt8 := [42, 180, 0, 19, 180, 0, 127, 154, 0, 5, 2, 172, 42, 180, 0, 19, 89, 180, 0, 127, 4, 100]
abbrev dktX1_undo_0 : List UInt8 := dkwX1_undo_0 ++ dktX1_undo_1
theorem dksX1_undo_0 : cX1_undo.data.toList.drop 0 = dktX1_undo_0 := by decide +kernel
theorem dksX1_undo_1 : cX1_undo.data.toList.drop 22 = dktX1_undo_1 := dk_seg dksX1_undo_0 22 rfl rfl
theorem dksX1_undo_2 : cX1_undo.data.toList.drop 46 = dktX1_undo_2 := dk_seg dksX1_undo_1 24 rfl rfl
theorem dX1_undo_0 : decode cX1_undo 0 = .ok (.aload_n 0, 1) := dk_42 (dk_at dksX1_undo_0 0 rfl rfl)
theorem dX1_undo_1 : decode cX1_undo 1 = .ok (.getfield 19, 3) := dk_180 0 19 (dk_at dksX1_undo_0 1 rfl rfl)
theorem dX1_undo_4 : decode cX1_undo 4 = .ok (.getfield 127, 3) := dk_180 0 127 (dk_at dksX1_undo_0 4 rfl rfl)
theorem dX1_undo_7 : decode cX1_undo 7 = .ok (.ifCond .ne 5, 3) := dk_154 0 5 (dk_at dksX1_undo_0 7 rfl rfl)
theorem dX1_undo_10 : decode cX1_undo 10 = .ok (.iconst (-1), 1) := dk_2 (dk_at dksX1_undo_0 10 rfl rfl)
theorem dX1_undo_11 : decode cX1_undo 11 = .ok (.ireturn, 1) := dk_172 (dk_at dksX1_undo_0 11 rfl rfl)
theorem dX1_undo_12 : decode cX1_undo 12 = .ok (.aload_n 0, 1) := dk_42 (dk_at dksX1_undo_0 12 rfl rfl)
theorem dX1_undo_13 : decode cX1_undo 13 = .ok (.getfield 19, 3) := dk_180 0 19 (dk_at dksX1_undo_0 13 rfl rfl)
theorem dX1_undo_16 : decode cX1_undo 16 = .ok (.dup, 1) := dk_89 (dk_at dksX1_undo_0 16 rfl rfl)
theorem dX1_undo_17 : decode cX1_undo 17 = .ok (.getfield 127, 3) := dk_180 0 127 (dk_at dksX1_undo_0 17 rfl rfl)
theorem dX1_undo_20 : decode cX1_undo 20 = .ok (.iconst 1, 1) := dk_4 (dk_at dksX1_undo_0 20 rfl rfl)
theorem dX1_undo_21 : decode cX1_undo 21 = .ok (.isub, 1) := dk_100 (dk_at dksX1_undo_0 21 rfl rfl)
theorem dX1_undo_22 : decode cX1_undo 22 = .ok (.putfield 127, 3) := dk_181 0 127 (dk_at dksX1_undo_1 0 rfl rfl)
theorem dX1_undo_25 : decode cX1_undo 25 = .ok (.aload_n 0, 1) := dk_42 (dk_at dksX1_undo_1 3 rfl rfl)
theorem dX1_undo_26 : decode cX1_undo 26 = .ok (.getfield 30, 3) := dk_180 0 30 (dk_at dksX1_undo_1 4 rfl rfl)
theorem dX1_undo_29 : decode cX1_undo 29 = .ok (.aload_n 0, 1) := dk_42 (dk_at dksX1_undo_1 7 rfl rfl)
theorem dX1_undo_30 : decode cX1_undo 30 = .ok (.getfield 19, 3) := dk_180 0 19 (dk_at dksX1_undo_1 8 rfl rfl)
theorem dX1_undo_33 : decode cX1_undo 33 = .ok (.getfield 236, 3) := dk_180 0 236 (dk_at dksX1_undo_1 11 rfl rfl)
theorem dX1_undo_36 : decode cX1_undo 36 = .ok (.aload_n 0, 1) := dk_42 (dk_at dksX1_undo_1 14 rfl rfl)
theorem dX1_undo_37 : decode cX1_undo 37 = .ok (.getfield 19, 3) := dk_180 0 19 (dk_at dksX1_undo_1 15 rfl rfl)
theorem dX1_undo_40 : decode cX1_undo 40 = .ok (.getfield 127, 3) := dk_180 0 127 (dk_at dksX1_undo_1 18 rfl rfl)
theorem dX1_undo_43 : decode cX1_undo 43 = .ok (.invokevirtual 89, 3) := dk_182 0 89 (dk_at dksX1_undo_1 21 rfl rfl)
theorem dX1_undo_46 : decode cX1_undo 46 = .ok (.checkcast 31, 3) := dk_192 0 31 (dk_at dksX1_undo_2 0 rfl rfl)
theorem dX1_undo_49 : decode cX1_undo 49 = .ok (.invokevirtual 239, 3) := dk_182 0 239 (dk_at dksX1_undo_2 3 rfl rfl)
theorem dX1_undo_52 : decode cX1_undo 52 = .ok (.aload_n 0, 1) := dk_42 (dk_at dksX1_undo_2 6 rfl rfl)
theorem dX1_undo_53 : decode cX1_undo 53 = .ok (.getfield 19, 3) := dk_180 0 19 (dk_at dksX1_undo_2 7 rfl rfl)
theorem dX1_undo_56 : decode cX1_undo 56 = .ok (.getfield 127, 3) := dk_180 0 127 (dk_at dksX1_undo_2 10 rfl rfl)
theorem dX1_undo_59 : decode cX1_undo 59 = .ok (.ireturn, 1) := dk_172 (dk_at dksX1_undo_2 13 rfl rfl)
abbrev cX1_more : ByteArray := prog_1_method_27_code
def yX1_more : MethodName := ⟨RX1, "more", "()I"⟩
def dkwX1_more_0 : List UInt8 := [42, 42, 180, 0, 30, 182, 0, 243, 172]
abbrev dktX1_more_0 : List UInt8 := dkwX1_more_0 ++ []
theorem dksX1_more_0 : cX1_more.data.toList.drop 0 = dktX1_more_0 := by decide +kernel
theorem dX1_more_0 : decode cX1_more 0 = .ok (.aload_n 0, 1) := dk_42 (dk_at dksX1_more_0 0 rfl rfl)
theorem dX1_more_1 : decode cX1_more 1 = .ok (.aload_n 0, 1) := dk_42 (dk_at dksX1_more_0 1 rfl rfl)
theorem dX1_more_2 : decode cX1_more 2 = .ok (.getfield 30, 3) := dk_180 0 30 (dk_at dksX1_more_0 2 rfl rfl)
theorem dX1_more_5 : decode cX1_more 5 = .ok (.invokevirtual 243, 3) := dk_182 0 243 (dk_at dksX1_more_0 5 rfl rfl)
theorem dX1_more_8 : decode cX1_more 8 = .ok (.ireturn, 1) := dk_172 (dk_at dksX1_more_0 8 rfl rfl)
abbrev cX1_moreOf : ByteArray := prog_1_method_52_code
def yX1_moreOf : MethodName := ⟨RX1, "moreOf", "(LTableTower$State;)I"⟩
def dkwX1_moreOf_2 : List UInt8 := [184, 1, 40, 61, 132, 3, 1, 167, 255, 221, 28, 172]
abbrev dktX1_moreOf_2 : List UInt8 := dkwX1_moreOf_2 ++ []
def dkwX1_moreOf_1 : List UInt8 := [162, 0, 33, 28, 43, 42, 180, 0, 10, 29, 182, 0, 202, 43, 42, 180, 0, 10, 29, 182, 0, 198, 100]
abbrev dktX1_moreOf_1 : List UInt8 := dkwX1_moreOf_1 ++ dktX1_moreOf_2
def dkwX1_moreOf_0 : List UInt8 := [43, 42, 180, 0, 10, 182, 0, 147, 154, 0, 5, 2, 172, 17, 39, 15, 61, 3, 62, 29, 43, 180, 0, 95]
abbrev dktX1_moreOf_0 : List UInt8 := dkwX1_moreOf_0 ++ dktX1_moreOf_1
theorem dksX1_moreOf_0 : cX1_moreOf.data.toList.drop 0 = dktX1_moreOf_0 := by decide +kernel
theorem dksX1_moreOf_1 : cX1_moreOf.data.toList.drop 24 = dktX1_moreOf_1 := dk_seg dksX1_moreOf_0 24 rfl rfl
theorem dksX1_moreOf_2 : cX1_moreOf.data.toList.drop 47 = dktX1_moreOf_2 := dk_seg dksX1_moreOf_1 23 rfl rfl
theorem dX1_moreOf_0 : decode cX1_moreOf 0 = .ok (.aload_n 1, 1) := dk_43 (dk_at dksX1_moreOf_0 0 rfl rfl)
theorem dX1_moreOf_1 : decode cX1_moreOf 1 = .ok (.aload_n 0, 1) := dk_42 (dk_at dksX1_moreOf_0 1 rfl rfl)
theorem dX1_moreOf_2 : decode cX1_moreOf 2 = .ok (.getfield 10, 3) := dk_180 0 10 (dk_at dksX1_moreOf_0 2 rfl rfl)
theorem dX1_moreOf_5 : decode cX1_moreOf 5 = .ok (.invokevirtual 147, 3) := dk_182 0 147 (dk_at dksX1_moreOf_0 5 rfl rfl)
theorem dX1_moreOf_8 : decode cX1_moreOf 8 = .ok (.ifCond .ne 5, 3) := dk_154 0 5 (dk_at dksX1_moreOf_0 8 rfl rfl)
theorem dX1_moreOf_11 : decode cX1_moreOf 11 = .ok (.iconst (-1), 1) := dk_2 (dk_at dksX1_moreOf_0 11 rfl rfl)
theorem dX1_moreOf_12 : decode cX1_moreOf 12 = .ok (.ireturn, 1) := dk_172 (dk_at dksX1_moreOf_0 12 rfl rfl)
theorem dX1_moreOf_13 : decode cX1_moreOf 13 = .ok (.sipush 9999, 3) := dk_17 39 15 (dk_at dksX1_moreOf_0 13 rfl rfl)
theorem dX1_moreOf_16 : decode cX1_moreOf 16 = .ok (.istore_n 2, 1) := dk_61 (dk_at dksX1_moreOf_0 16 rfl rfl)
theorem dX1_moreOf_17 : decode cX1_moreOf 17 = .ok (.iconst 0, 1) := dk_3 (dk_at dksX1_moreOf_0 17 rfl rfl)
theorem dX1_moreOf_18 : decode cX1_moreOf 18 = .ok (.istore_n 3, 1) := dk_62 (dk_at dksX1_moreOf_0 18 rfl rfl)
theorem dX1_moreOf_19 : decode cX1_moreOf 19 = .ok (.iload_n 3, 1) := dk_29 (dk_at dksX1_moreOf_0 19 rfl rfl)
theorem dX1_moreOf_20 : decode cX1_moreOf 20 = .ok (.aload_n 1, 1) := dk_43 (dk_at dksX1_moreOf_0 20 rfl rfl)
theorem dX1_moreOf_21 : decode cX1_moreOf 21 = .ok (.getfield 95, 3) := dk_180 0 95 (dk_at dksX1_moreOf_0 21 rfl rfl)
theorem dX1_moreOf_24 : decode cX1_moreOf 24 = .ok (.if_icmp .ge 33, 3) := dk_162 0 33 (dk_at dksX1_moreOf_1 0 rfl rfl)
theorem dX1_moreOf_27 : decode cX1_moreOf 27 = .ok (.iload_n 2, 1) := dk_28 (dk_at dksX1_moreOf_1 3 rfl rfl)
theorem dX1_moreOf_28 : decode cX1_moreOf 28 = .ok (.aload_n 1, 1) := dk_43 (dk_at dksX1_moreOf_1 4 rfl rfl)
theorem dX1_moreOf_29 : decode cX1_moreOf 29 = .ok (.aload_n 0, 1) := dk_42 (dk_at dksX1_moreOf_1 5 rfl rfl)
theorem dX1_moreOf_30 : decode cX1_moreOf 30 = .ok (.getfield 10, 3) := dk_180 0 10 (dk_at dksX1_moreOf_1 6 rfl rfl)
theorem dX1_moreOf_33 : decode cX1_moreOf 33 = .ok (.iload_n 3, 1) := dk_29 (dk_at dksX1_moreOf_1 9 rfl rfl)
theorem dX1_moreOf_34 : decode cX1_moreOf 34 = .ok (.invokevirtual 202, 3) := dk_182 0 202 (dk_at dksX1_moreOf_1 10 rfl rfl)
theorem dX1_moreOf_37 : decode cX1_moreOf 37 = .ok (.aload_n 1, 1) := dk_43 (dk_at dksX1_moreOf_1 13 rfl rfl)
theorem dX1_moreOf_38 : decode cX1_moreOf 38 = .ok (.aload_n 0, 1) := dk_42 (dk_at dksX1_moreOf_1 14 rfl rfl)
theorem dX1_moreOf_39 : decode cX1_moreOf 39 = .ok (.getfield 10, 3) := dk_180 0 10 (dk_at dksX1_moreOf_1 15 rfl rfl)
theorem dX1_moreOf_42 : decode cX1_moreOf 42 = .ok (.iload_n 3, 1) := dk_29 (dk_at dksX1_moreOf_1 18 rfl rfl)
theorem dX1_moreOf_43 : decode cX1_moreOf 43 = .ok (.invokevirtual 198, 3) := dk_182 0 198 (dk_at dksX1_moreOf_1 19 rfl rfl)
theorem dX1_moreOf_46 : decode cX1_moreOf 46 = .ok (.isub, 1) := dk_100 (dk_at dksX1_moreOf_1 22 rfl rfl)
theorem dX1_moreOf_47 : decode cX1_moreOf 47 = .ok (.invokestatic 296, 3) := dk_184 1 40 (dk_at dksX1_moreOf_2 0 rfl rfl)
theorem dX1_moreOf_50 : decode cX1_moreOf 50 = .ok (.istore_n 2, 1) := dk_61 (dk_at dksX1_moreOf_2 3 rfl rfl)
theorem dX1_moreOf_51 : decode cX1_moreOf 51 = .ok (.iinc 3 1, 3) := dk_132 3 1 (dk_at dksX1_moreOf_2 4 rfl rfl)
theorem dX1_moreOf_54 : decode cX1_moreOf 54 = .ok (.goto (-35), 3) := dk_167 255 221 (dk_at dksX1_moreOf_2 7 rfl rfl)
theorem dX1_moreOf_57 : decode cX1_moreOf 57 = .ok (.iload_n 2, 1) := dk_28 (dk_at dksX1_moreOf_2 10 rfl rfl)
theorem dX1_moreOf_58 : decode cX1_moreOf 58 = .ok (.ireturn, 1) := dk_172 (dk_at dksX1_moreOf_2 11 rfl rfl)
abbrev cX1_orders : ByteArray := prog_1_method_37_code
def yX1_orders : MethodName := ⟨RX1, "orders", "()J"⟩
def dkwX1_orders_0 : List UInt8 := [42, 42, 180, 0, 30, 182, 1, 29, 182, 1, 17, 173]
abbrev dktX1_orders_0 : List UInt8 := dkwX1_orders_0 ++ []
theorem dksX1_orders_0 : cX1_orders.data.toList.drop 0 = dktX1_orders_0 := by decide +kernel
theorem dX1_orders_0 : decode cX1_orders 0 = .ok (.aload_n 0, 1) := dk_42 (dk_at dksX1_orders_0 0 rfl rfl)
theorem dX1_orders_1 : decode cX1_orders 1 = .ok (.aload_n 0, 1) := dk_42 (dk_at dksX1_orders_0 1 rfl rfl)
theorem dX1_orders_2 : decode cX1_orders 2 = .ok (.getfield 30, 3) := dk_180 0 30 (dk_at dksX1_orders_0 2 rfl rfl)
theorem dX1_orders_5 : decode cX1_orders 5 = .ok (.invokevirtual 285, 3) := dk_182 1 29 (dk_at dksX1_orders_0 5 rfl rfl)
theorem dX1_orders_8 : decode cX1_orders 8 = .ok (.invokevirtual 273, 3) := dk_182 1 17 (dk_at dksX1_orders_0 8 rfl rfl)
theorem dX1_orders_11 : decode cX1_orders 11 = .ok (.lreturn, 1) := dk_173 (dk_at dksX1_orders_0 11 rfl rfl)
abbrev cX1_ordersOf : ByteArray := prog_1_method_32_code
def yX1_ordersOf : MethodName := ⟨RX1, "ordersOf", "(I)J"⟩
def dkwX1_ordersOf_0 : List UInt8 := [42, 27, 3, 3, 182, 1, 8, 173]
abbrev dktX1_ordersOf_0 : List UInt8 := dkwX1_ordersOf_0 ++ []
theorem dksX1_ordersOf_0 : cX1_ordersOf.data.toList.drop 0 = dktX1_ordersOf_0 := by decide +kernel
theorem dX1_ordersOf_0 : decode cX1_ordersOf 0 = .ok (.aload_n 0, 1) := dk_42 (dk_at dksX1_ordersOf_0 0 rfl rfl)
theorem dX1_ordersOf_1 : decode cX1_ordersOf 1 = .ok (.iload_n 1, 1) := dk_27 (dk_at dksX1_ordersOf_0 1 rfl rfl)
theorem dX1_ordersOf_2 : decode cX1_ordersOf 2 = .ok (.iconst 0, 1) := dk_3 (dk_at dksX1_ordersOf_0 2 rfl rfl)
theorem dX1_ordersOf_3 : decode cX1_ordersOf 3 = .ok (.iconst 0, 1) := dk_3 (dk_at dksX1_ordersOf_0 3 rfl rfl)
theorem dX1_ordersOf_4 : decode cX1_ordersOf 4 = .ok (.invokevirtual 264, 3) := dk_182 1 8 (dk_at dksX1_ordersOf_0 4 rfl rfl)
theorem dX1_ordersOf_7 : decode cX1_ordersOf 7 = .ok (.lreturn, 1) := dk_173 (dk_at dksX1_ordersOf_0 7 rfl rfl)
abbrev cX1_ordersOf_2 : ByteArray := prog_1_method_50_code
def yX1_ordersOf_2 : MethodName := ⟨RX1, "ordersOf", "(III)J"⟩
def dkwX1_ordersOf_2_6 : List UInt8 := [132, 4, 1, 167, 255, 128, 42, 180, 0, 45, 27, 47, 173]
abbrev dktX1_ordersOf_2_6 : List UInt8 := dkwX1_ordersOf_2_6 ++ []
def dkwX1_ordersOf_2_5 : List UInt8 := [180, 0, 45, 21, 4, 92, 47, 42, 180, 0, 45, 21, 6, 47, 97, 80, 132, 5, 1, 167, 255, 163]
abbrev dktX1_ordersOf_2_5 : List UInt8 := dkwX1_ordersOf_2_5 ++ dktX1_ordersOf_2_6
def dkwX1_ordersOf_2_4 : List UInt8 := [184, 1, 12, 29, 162, 0, 6, 167, 0, 32, 42, 21, 5, 21, 6, 27, 182, 1, 23, 153, 0, 20, 42]
abbrev dktX1_ordersOf_2_4 : List UInt8 := dkwX1_ordersOf_2_4 ++ dktX1_ordersOf_2_5
def dkwX1_ordersOf_2_3 : List UInt8 := [180, 0, 45, 21, 6, 47, 9, 148, 153, 0, 54, 28, 21, 5, 122, 4, 126, 4, 160, 0, 15, 21, 6]
abbrev dktX1_ordersOf_2_3 : List UInt8 := dkwX1_ordersOf_2_3 ++ dktX1_ordersOf_2_4
def dkwX1_ordersOf_2_2 : List UInt8 := [162, 0, 90, 21, 4, 4, 21, 5, 120, 2, 130, 126, 54, 6, 21, 6, 21, 4, 159, 0, 66, 42]
abbrev dktX1_ordersOf_2_2 : List UInt8 := dkwX1_ordersOf_2_2 ++ dktX1_ordersOf_2_3
def dkwX1_ordersOf_2_1 : List UInt8 := [153, 0, 6, 167, 0, 110, 42, 180, 0, 45, 21, 4, 9, 80, 3, 54, 5, 21, 5, 42, 182, 0, 83]
abbrev dktX1_ordersOf_2_1 : List UInt8 := dkwX1_ordersOf_2_1 ++ dktX1_ordersOf_2_2
def dkwX1_ordersOf_2_0 : List UInt8 := [42, 180, 0, 45, 3, 10, 80, 4, 54, 4, 21, 4, 27, 163, 0, 128, 21, 4, 27, 2, 130, 126]
abbrev dktX1_ordersOf_2_0 : List UInt8 := dkwX1_ordersOf_2_0 ++ dktX1_ordersOf_2_1
theorem dksX1_ordersOf_2_0 : cX1_ordersOf_2.data.toList.drop 0 = dktX1_ordersOf_2_0 := by decide +kernel
theorem dksX1_ordersOf_2_1 : cX1_ordersOf_2.data.toList.drop 22 = dktX1_ordersOf_2_1 := dk_seg dksX1_ordersOf_2_0 22 rfl rfl
theorem dksX1_ordersOf_2_2 : cX1_ordersOf_2.data.toList.drop 45 = dktX1_ordersOf_2_2 := dk_seg dksX1_ordersOf_2_1 23 rfl rfl
theorem dksX1_ordersOf_2_3 : cX1_ordersOf_2.data.toList.drop 67 = dktX1_ordersOf_2_3 := dk_seg dksX1_ordersOf_2_2 22 rfl rfl
theorem dksX1_ordersOf_2_4 : cX1_ordersOf_2.data.toList.drop 90 = dktX1_ordersOf_2_4 := dk_seg dksX1_ordersOf_2_3 23 rfl rfl
theorem dksX1_ordersOf_2_5 : cX1_ordersOf_2.data.toList.drop 113 = dktX1_ordersOf_2_5 := dk_seg dksX1_ordersOf_2_4 23 rfl rfl
theorem dksX1_ordersOf_2_6 : cX1_ordersOf_2.data.toList.drop 135 = dktX1_ordersOf_2_6 := dk_seg dksX1_ordersOf_2_5 22 rfl rfl
theorem dX1_ordersOf_2_0 : decode cX1_ordersOf_2 0 = .ok (.aload_n 0, 1) := dk_42 (dk_at dksX1_ordersOf_2_0 0 rfl rfl)
theorem dX1_ordersOf_2_1 : decode cX1_ordersOf_2 1 = .ok (.getfield 45, 3) := dk_180 0 45 (dk_at dksX1_ordersOf_2_0 1 rfl rfl)
theorem dX1_ordersOf_2_4 : decode cX1_ordersOf_2 4 = .ok (.iconst 0, 1) := dk_3 (dk_at dksX1_ordersOf_2_0 4 rfl rfl)
theorem dX1_ordersOf_2_5 : decode cX1_ordersOf_2 5 = .ok (.lconst 1, 1) := dk_10 (dk_at dksX1_ordersOf_2_0 5 rfl rfl)
theorem dX1_ordersOf_2_6 : decode cX1_ordersOf_2 6 = .ok (.lastore, 1) := dk_80 (dk_at dksX1_ordersOf_2_0 6 rfl rfl)
theorem dX1_ordersOf_2_7 : decode cX1_ordersOf_2 7 = .ok (.iconst 1, 1) := dk_4 (dk_at dksX1_ordersOf_2_0 7 rfl rfl)
theorem dX1_ordersOf_2_8 : decode cX1_ordersOf_2 8 = .ok (.istore 4, 2) := dk_54 4 (dk_at dksX1_ordersOf_2_0 8 rfl rfl)
theorem dX1_ordersOf_2_10 : decode cX1_ordersOf_2 10 = .ok (.iload 4, 2) := dk_21 4 (dk_at dksX1_ordersOf_2_0 10 rfl rfl)
theorem dX1_ordersOf_2_12 : decode cX1_ordersOf_2 12 = .ok (.iload_n 1, 1) := dk_27 (dk_at dksX1_ordersOf_2_0 12 rfl rfl)
theorem dX1_ordersOf_2_13 : decode cX1_ordersOf_2 13 = .ok (.if_icmp .gt 128, 3) := dk_163 0 128 (dk_at dksX1_ordersOf_2_0 13 rfl rfl)
theorem dX1_ordersOf_2_16 : decode cX1_ordersOf_2 16 = .ok (.iload 4, 2) := dk_21 4 (dk_at dksX1_ordersOf_2_0 16 rfl rfl)
theorem dX1_ordersOf_2_18 : decode cX1_ordersOf_2 18 = .ok (.iload_n 1, 1) := dk_27 (dk_at dksX1_ordersOf_2_0 18 rfl rfl)
theorem dX1_ordersOf_2_19 : decode cX1_ordersOf_2 19 = .ok (.iconst (-1), 1) := dk_2 (dk_at dksX1_ordersOf_2_0 19 rfl rfl)
theorem dX1_ordersOf_2_20 : decode cX1_ordersOf_2 20 = .ok (.ixor, 1) := dk_130 (dk_at dksX1_ordersOf_2_0 20 rfl rfl)
theorem dX1_ordersOf_2_21 : decode cX1_ordersOf_2 21 = .ok (.iand, 1) := dk_126 (dk_at dksX1_ordersOf_2_0 21 rfl rfl)
theorem dX1_ordersOf_2_22 : decode cX1_ordersOf_2 22 = .ok (.ifCond .eq 6, 3) := dk_153 0 6 (dk_at dksX1_ordersOf_2_1 0 rfl rfl)
theorem dX1_ordersOf_2_25 : decode cX1_ordersOf_2 25 = .ok (.goto 110, 3) := dk_167 0 110 (dk_at dksX1_ordersOf_2_1 3 rfl rfl)
theorem dX1_ordersOf_2_28 : decode cX1_ordersOf_2 28 = .ok (.aload_n 0, 1) := dk_42 (dk_at dksX1_ordersOf_2_1 6 rfl rfl)
theorem dX1_ordersOf_2_29 : decode cX1_ordersOf_2 29 = .ok (.getfield 45, 3) := dk_180 0 45 (dk_at dksX1_ordersOf_2_1 7 rfl rfl)
theorem dX1_ordersOf_2_32 : decode cX1_ordersOf_2 32 = .ok (.iload 4, 2) := dk_21 4 (dk_at dksX1_ordersOf_2_1 10 rfl rfl)
theorem dX1_ordersOf_2_34 : decode cX1_ordersOf_2 34 = .ok (.lconst 0, 1) := dk_9 (dk_at dksX1_ordersOf_2_1 12 rfl rfl)
theorem dX1_ordersOf_2_35 : decode cX1_ordersOf_2 35 = .ok (.lastore, 1) := dk_80 (dk_at dksX1_ordersOf_2_1 13 rfl rfl)
theorem dX1_ordersOf_2_36 : decode cX1_ordersOf_2 36 = .ok (.iconst 0, 1) := dk_3 (dk_at dksX1_ordersOf_2_1 14 rfl rfl)
theorem dX1_ordersOf_2_37 : decode cX1_ordersOf_2 37 = .ok (.istore 5, 2) := dk_54 5 (dk_at dksX1_ordersOf_2_1 15 rfl rfl)
theorem dX1_ordersOf_2_39 : decode cX1_ordersOf_2 39 = .ok (.iload 5, 2) := dk_21 5 (dk_at dksX1_ordersOf_2_1 17 rfl rfl)
theorem dX1_ordersOf_2_41 : decode cX1_ordersOf_2 41 = .ok (.aload_n 0, 1) := dk_42 (dk_at dksX1_ordersOf_2_1 19 rfl rfl)
theorem dX1_ordersOf_2_42 : decode cX1_ordersOf_2 42 = .ok (.invokevirtual 83, 3) := dk_182 0 83 (dk_at dksX1_ordersOf_2_1 20 rfl rfl)
theorem dX1_ordersOf_2_45 : decode cX1_ordersOf_2 45 = .ok (.if_icmp .ge 90, 3) := dk_162 0 90 (dk_at dksX1_ordersOf_2_2 0 rfl rfl)
theorem dX1_ordersOf_2_48 : decode cX1_ordersOf_2 48 = .ok (.iload 4, 2) := dk_21 4 (dk_at dksX1_ordersOf_2_2 3 rfl rfl)
theorem dX1_ordersOf_2_50 : decode cX1_ordersOf_2 50 = .ok (.iconst 1, 1) := dk_4 (dk_at dksX1_ordersOf_2_2 5 rfl rfl)
theorem dX1_ordersOf_2_51 : decode cX1_ordersOf_2 51 = .ok (.iload 5, 2) := dk_21 5 (dk_at dksX1_ordersOf_2_2 6 rfl rfl)
theorem dX1_ordersOf_2_53 : decode cX1_ordersOf_2 53 = .ok (.ishl, 1) := dk_120 (dk_at dksX1_ordersOf_2_2 8 rfl rfl)
theorem dX1_ordersOf_2_54 : decode cX1_ordersOf_2 54 = .ok (.iconst (-1), 1) := dk_2 (dk_at dksX1_ordersOf_2_2 9 rfl rfl)
theorem dX1_ordersOf_2_55 : decode cX1_ordersOf_2 55 = .ok (.ixor, 1) := dk_130 (dk_at dksX1_ordersOf_2_2 10 rfl rfl)
theorem dX1_ordersOf_2_56 : decode cX1_ordersOf_2 56 = .ok (.iand, 1) := dk_126 (dk_at dksX1_ordersOf_2_2 11 rfl rfl)
theorem dX1_ordersOf_2_57 : decode cX1_ordersOf_2 57 = .ok (.istore 6, 2) := dk_54 6 (dk_at dksX1_ordersOf_2_2 12 rfl rfl)
theorem dX1_ordersOf_2_59 : decode cX1_ordersOf_2 59 = .ok (.iload 6, 2) := dk_21 6 (dk_at dksX1_ordersOf_2_2 14 rfl rfl)
theorem dX1_ordersOf_2_61 : decode cX1_ordersOf_2 61 = .ok (.iload 4, 2) := dk_21 4 (dk_at dksX1_ordersOf_2_2 16 rfl rfl)
theorem dX1_ordersOf_2_63 : decode cX1_ordersOf_2 63 = .ok (.if_icmp .eq 66, 3) := dk_159 0 66 (dk_at dksX1_ordersOf_2_2 18 rfl rfl)
theorem dX1_ordersOf_2_66 : decode cX1_ordersOf_2 66 = .ok (.aload_n 0, 1) := dk_42 (dk_at dksX1_ordersOf_2_2 21 rfl rfl)
theorem dX1_ordersOf_2_67 : decode cX1_ordersOf_2 67 = .ok (.getfield 45, 3) := dk_180 0 45 (dk_at dksX1_ordersOf_2_3 0 rfl rfl)
theorem dX1_ordersOf_2_70 : decode cX1_ordersOf_2 70 = .ok (.iload 6, 2) := dk_21 6 (dk_at dksX1_ordersOf_2_3 3 rfl rfl)
theorem dX1_ordersOf_2_72 : decode cX1_ordersOf_2 72 = .ok (.laload, 1) := dk_47 (dk_at dksX1_ordersOf_2_3 5 rfl rfl)
theorem dX1_ordersOf_2_73 : decode cX1_ordersOf_2 73 = .ok (.lconst 0, 1) := dk_9 (dk_at dksX1_ordersOf_2_3 6 rfl rfl)
theorem dX1_ordersOf_2_74 : decode cX1_ordersOf_2 74 = .ok (.lcmp, 1) := dk_148 (dk_at dksX1_ordersOf_2_3 7 rfl rfl)
theorem dX1_ordersOf_2_75 : decode cX1_ordersOf_2 75 = .ok (.ifCond .eq 54, 3) := dk_153 0 54 (dk_at dksX1_ordersOf_2_3 8 rfl rfl)
theorem dX1_ordersOf_2_78 : decode cX1_ordersOf_2 78 = .ok (.iload_n 2, 1) := dk_28 (dk_at dksX1_ordersOf_2_3 11 rfl rfl)
theorem dX1_ordersOf_2_79 : decode cX1_ordersOf_2 79 = .ok (.iload 5, 2) := dk_21 5 (dk_at dksX1_ordersOf_2_3 12 rfl rfl)
theorem dX1_ordersOf_2_81 : decode cX1_ordersOf_2 81 = .ok (.ishr, 1) := dk_122 (dk_at dksX1_ordersOf_2_3 14 rfl rfl)
theorem dX1_ordersOf_2_82 : decode cX1_ordersOf_2 82 = .ok (.iconst 1, 1) := dk_4 (dk_at dksX1_ordersOf_2_3 15 rfl rfl)
theorem dX1_ordersOf_2_83 : decode cX1_ordersOf_2 83 = .ok (.iand, 1) := dk_126 (dk_at dksX1_ordersOf_2_3 16 rfl rfl)
theorem dX1_ordersOf_2_84 : decode cX1_ordersOf_2 84 = .ok (.iconst 1, 1) := dk_4 (dk_at dksX1_ordersOf_2_3 17 rfl rfl)
theorem dX1_ordersOf_2_85 : decode cX1_ordersOf_2 85 = .ok (.if_icmp .ne 15, 3) := dk_160 0 15 (dk_at dksX1_ordersOf_2_3 18 rfl rfl)
theorem dX1_ordersOf_2_88 : decode cX1_ordersOf_2 88 = .ok (.iload 6, 2) := dk_21 6 (dk_at dksX1_ordersOf_2_3 21 rfl rfl)
theorem dX1_ordersOf_2_90 : decode cX1_ordersOf_2 90 = .ok (.invokestatic 268, 3) := dk_184 1 12 (dk_at dksX1_ordersOf_2_4 0 rfl rfl)
theorem dX1_ordersOf_2_93 : decode cX1_ordersOf_2 93 = .ok (.iload_n 3, 1) := dk_29 (dk_at dksX1_ordersOf_2_4 3 rfl rfl)
theorem dX1_ordersOf_2_94 : decode cX1_ordersOf_2 94 = .ok (.if_icmp .ge 6, 3) := dk_162 0 6 (dk_at dksX1_ordersOf_2_4 4 rfl rfl)
theorem dX1_ordersOf_2_97 : decode cX1_ordersOf_2 97 = .ok (.goto 32, 3) := dk_167 0 32 (dk_at dksX1_ordersOf_2_4 7 rfl rfl)
theorem dX1_ordersOf_2_100 : decode cX1_ordersOf_2 100 = .ok (.aload_n 0, 1) := dk_42 (dk_at dksX1_ordersOf_2_4 10 rfl rfl)
theorem dX1_ordersOf_2_101 : decode cX1_ordersOf_2 101 = .ok (.iload 5, 2) := dk_21 5 (dk_at dksX1_ordersOf_2_4 11 rfl rfl)
theorem dX1_ordersOf_2_103 : decode cX1_ordersOf_2 103 = .ok (.iload 6, 2) := dk_21 6 (dk_at dksX1_ordersOf_2_4 13 rfl rfl)
theorem dX1_ordersOf_2_105 : decode cX1_ordersOf_2 105 = .ok (.iload_n 1, 1) := dk_27 (dk_at dksX1_ordersOf_2_4 15 rfl rfl)
theorem dX1_ordersOf_2_106 : decode cX1_ordersOf_2 106 = .ok (.invokevirtual 279, 3) := dk_182 1 23 (dk_at dksX1_ordersOf_2_4 16 rfl rfl)
theorem dX1_ordersOf_2_109 : decode cX1_ordersOf_2 109 = .ok (.ifCond .eq 20, 3) := dk_153 0 20 (dk_at dksX1_ordersOf_2_4 19 rfl rfl)
theorem dX1_ordersOf_2_112 : decode cX1_ordersOf_2 112 = .ok (.aload_n 0, 1) := dk_42 (dk_at dksX1_ordersOf_2_4 22 rfl rfl)
theorem dX1_ordersOf_2_113 : decode cX1_ordersOf_2 113 = .ok (.getfield 45, 3) := dk_180 0 45 (dk_at dksX1_ordersOf_2_5 0 rfl rfl)
theorem dX1_ordersOf_2_116 : decode cX1_ordersOf_2 116 = .ok (.iload 4, 2) := dk_21 4 (dk_at dksX1_ordersOf_2_5 3 rfl rfl)
theorem dX1_ordersOf_2_118 : decode cX1_ordersOf_2 118 = .ok (.dup2, 1) := dk_92 (dk_at dksX1_ordersOf_2_5 5 rfl rfl)
theorem dX1_ordersOf_2_119 : decode cX1_ordersOf_2 119 = .ok (.laload, 1) := dk_47 (dk_at dksX1_ordersOf_2_5 6 rfl rfl)
theorem dX1_ordersOf_2_120 : decode cX1_ordersOf_2 120 = .ok (.aload_n 0, 1) := dk_42 (dk_at dksX1_ordersOf_2_5 7 rfl rfl)
theorem dX1_ordersOf_2_121 : decode cX1_ordersOf_2 121 = .ok (.getfield 45, 3) := dk_180 0 45 (dk_at dksX1_ordersOf_2_5 8 rfl rfl)
theorem dX1_ordersOf_2_124 : decode cX1_ordersOf_2 124 = .ok (.iload 6, 2) := dk_21 6 (dk_at dksX1_ordersOf_2_5 11 rfl rfl)
theorem dX1_ordersOf_2_126 : decode cX1_ordersOf_2 126 = .ok (.laload, 1) := dk_47 (dk_at dksX1_ordersOf_2_5 13 rfl rfl)
theorem dX1_ordersOf_2_127 : decode cX1_ordersOf_2 127 = .ok (.ladd, 1) := dk_97 (dk_at dksX1_ordersOf_2_5 14 rfl rfl)
theorem dX1_ordersOf_2_128 : decode cX1_ordersOf_2 128 = .ok (.lastore, 1) := dk_80 (dk_at dksX1_ordersOf_2_5 15 rfl rfl)
theorem dX1_ordersOf_2_129 : decode cX1_ordersOf_2 129 = .ok (.iinc 5 1, 3) := dk_132 5 1 (dk_at dksX1_ordersOf_2_5 16 rfl rfl)
theorem dX1_ordersOf_2_132 : decode cX1_ordersOf_2 132 = .ok (.goto (-93), 3) := dk_167 255 163 (dk_at dksX1_ordersOf_2_5 19 rfl rfl)
theorem dX1_ordersOf_2_135 : decode cX1_ordersOf_2 135 = .ok (.iinc 4 1, 3) := dk_132 4 1 (dk_at dksX1_ordersOf_2_6 0 rfl rfl)
theorem dX1_ordersOf_2_138 : decode cX1_ordersOf_2 138 = .ok (.goto (-128), 3) := dk_167 255 128 (dk_at dksX1_ordersOf_2_6 3 rfl rfl)
theorem dX1_ordersOf_2_141 : decode cX1_ordersOf_2 141 = .ok (.aload_n 0, 1) := dk_42 (dk_at dksX1_ordersOf_2_6 6 rfl rfl)
theorem dX1_ordersOf_2_142 : decode cX1_ordersOf_2 142 = .ok (.getfield 45, 3) := dk_180 0 45 (dk_at dksX1_ordersOf_2_6 7 rfl rfl)
theorem dX1_ordersOf_2_145 : decode cX1_ordersOf_2 145 = .ok (.iload_n 1, 1) := dk_27 (dk_at dksX1_ordersOf_2_6 10 rfl rfl)
theorem dX1_ordersOf_2_146 : decode cX1_ordersOf_2 146 = .ok (.laload, 1) := dk_47 (dk_at dksX1_ordersOf_2_6 11 rfl rfl)
theorem dX1_ordersOf_2_147 : decode cX1_ordersOf_2 147 = .ok (.lreturn, 1) := dk_173 (dk_at dksX1_ordersOf_2_6 12 rfl rfl)
abbrev cX1_holds : ByteArray := prog_1_method_31_code
def yX1_holds : MethodName := ⟨RX1, "holds", "(III)Z"⟩
def dkwX1_holds_4 : List UInt8 := [167, 0, 4, 3, 172]
abbrev dktX1_holds_4 : List UInt8 := dkwX1_holds_4 ++ []
def dkwX1_holds_3 : List UInt8 := [163, 0, 26, 42, 21, 4, 182, 1, 1, 184, 1, 3, 42, 180, 0, 10, 180, 0, 141, 163, 0, 7, 4]
abbrev dktX1_holds_3 : List UInt8 := dkwX1_holds_3 ++ dktX1_holds_4
def dkwX1_holds_2 : List UInt8 := [25, 5, 42, 180, 0, 30, 180, 0, 161, 21, 4, 29, 160, 0, 7, 4, 167, 0, 4, 3, 182, 0, 253]
abbrev dktX1_holds_2 : List UInt8 := dkwX1_holds_2 ++ dktX1_holds_3
def dkwX1_holds_1 : List UInt8 := [29, 21, 4, 2, 130, 126, 182, 0, 250, 42, 180, 0, 30, 180, 0, 183, 27, 46, 96, 54, 6, 21, 6]
abbrev dktX1_holds_1 : List UInt8 := dkwX1_holds_1 ++ dktX1_holds_2
def dkwX1_holds_0 : List UInt8 := [28, 4, 27, 120, 128, 54, 4, 42, 180, 0, 10, 180, 0, 73, 27, 182, 0, 89, 192, 0, 93, 58, 5, 42]
abbrev dktX1_holds_0 : List UInt8 := dkwX1_holds_0 ++ dktX1_holds_1
theorem dksX1_holds_0 : cX1_holds.data.toList.drop 0 = dktX1_holds_0 := by decide +kernel
theorem dksX1_holds_1 : cX1_holds.data.toList.drop 24 = dktX1_holds_1 := dk_seg dksX1_holds_0 24 rfl rfl
theorem dksX1_holds_2 : cX1_holds.data.toList.drop 47 = dktX1_holds_2 := dk_seg dksX1_holds_1 23 rfl rfl
theorem dksX1_holds_3 : cX1_holds.data.toList.drop 70 = dktX1_holds_3 := dk_seg dksX1_holds_2 23 rfl rfl
theorem dksX1_holds_4 : cX1_holds.data.toList.drop 93 = dktX1_holds_4 := dk_seg dksX1_holds_3 23 rfl rfl
theorem dX1_holds_0 : decode cX1_holds 0 = .ok (.iload_n 2, 1) := dk_28 (dk_at dksX1_holds_0 0 rfl rfl)
theorem dX1_holds_1 : decode cX1_holds 1 = .ok (.iconst 1, 1) := dk_4 (dk_at dksX1_holds_0 1 rfl rfl)
theorem dX1_holds_2 : decode cX1_holds 2 = .ok (.iload_n 1, 1) := dk_27 (dk_at dksX1_holds_0 2 rfl rfl)
theorem dX1_holds_3 : decode cX1_holds 3 = .ok (.ishl, 1) := dk_120 (dk_at dksX1_holds_0 3 rfl rfl)
theorem dX1_holds_4 : decode cX1_holds 4 = .ok (.ior, 1) := dk_128 (dk_at dksX1_holds_0 4 rfl rfl)
theorem dX1_holds_5 : decode cX1_holds 5 = .ok (.istore 4, 2) := dk_54 4 (dk_at dksX1_holds_0 5 rfl rfl)
theorem dX1_holds_7 : decode cX1_holds 7 = .ok (.aload_n 0, 1) := dk_42 (dk_at dksX1_holds_0 7 rfl rfl)
theorem dX1_holds_8 : decode cX1_holds 8 = .ok (.getfield 10, 3) := dk_180 0 10 (dk_at dksX1_holds_0 8 rfl rfl)
theorem dX1_holds_11 : decode cX1_holds 11 = .ok (.getfield 73, 3) := dk_180 0 73 (dk_at dksX1_holds_0 11 rfl rfl)
theorem dX1_holds_14 : decode cX1_holds 14 = .ok (.iload_n 1, 1) := dk_27 (dk_at dksX1_holds_0 14 rfl rfl)
theorem dX1_holds_15 : decode cX1_holds 15 = .ok (.invokevirtual 89, 3) := dk_182 0 89 (dk_at dksX1_holds_0 15 rfl rfl)
theorem dX1_holds_18 : decode cX1_holds 18 = .ok (.checkcast 93, 3) := dk_192 0 93 (dk_at dksX1_holds_0 18 rfl rfl)
theorem dX1_holds_21 : decode cX1_holds 21 = .ok (.astore 5, 2) := dk_58 5 (dk_at dksX1_holds_0 21 rfl rfl)
theorem dX1_holds_23 : decode cX1_holds 23 = .ok (.aload_n 0, 1) := dk_42 (dk_at dksX1_holds_0 23 rfl rfl)
theorem dX1_holds_24 : decode cX1_holds 24 = .ok (.iload_n 3, 1) := dk_29 (dk_at dksX1_holds_1 0 rfl rfl)
theorem dX1_holds_25 : decode cX1_holds 25 = .ok (.iload 4, 2) := dk_21 4 (dk_at dksX1_holds_1 1 rfl rfl)
theorem dX1_holds_27 : decode cX1_holds 27 = .ok (.iconst (-1), 1) := dk_2 (dk_at dksX1_holds_1 3 rfl rfl)
theorem dX1_holds_28 : decode cX1_holds 28 = .ok (.ixor, 1) := dk_130 (dk_at dksX1_holds_1 4 rfl rfl)
theorem dX1_holds_29 : decode cX1_holds 29 = .ok (.iand, 1) := dk_126 (dk_at dksX1_holds_1 5 rfl rfl)
theorem dX1_holds_30 : decode cX1_holds 30 = .ok (.invokevirtual 250, 3) := dk_182 0 250 (dk_at dksX1_holds_1 6 rfl rfl)
theorem dX1_holds_33 : decode cX1_holds 33 = .ok (.aload_n 0, 1) := dk_42 (dk_at dksX1_holds_1 9 rfl rfl)
theorem dX1_holds_34 : decode cX1_holds 34 = .ok (.getfield 30, 3) := dk_180 0 30 (dk_at dksX1_holds_1 10 rfl rfl)
theorem dX1_holds_37 : decode cX1_holds 37 = .ok (.getfield 183, 3) := dk_180 0 183 (dk_at dksX1_holds_1 13 rfl rfl)
theorem dX1_holds_40 : decode cX1_holds 40 = .ok (.iload_n 1, 1) := dk_27 (dk_at dksX1_holds_1 16 rfl rfl)
theorem dX1_holds_41 : decode cX1_holds 41 = .ok (.iaload, 1) := dk_46 (dk_at dksX1_holds_1 17 rfl rfl)
theorem dX1_holds_42 : decode cX1_holds 42 = .ok (.iadd, 1) := dk_96 (dk_at dksX1_holds_1 18 rfl rfl)
theorem dX1_holds_43 : decode cX1_holds 43 = .ok (.istore 6, 2) := dk_54 6 (dk_at dksX1_holds_1 19 rfl rfl)
theorem dX1_holds_45 : decode cX1_holds 45 = .ok (.iload 6, 2) := dk_21 6 (dk_at dksX1_holds_1 21 rfl rfl)
theorem dX1_holds_47 : decode cX1_holds 47 = .ok (.aload 5, 2) := dk_25 5 (dk_at dksX1_holds_2 0 rfl rfl)
theorem dX1_holds_49 : decode cX1_holds 49 = .ok (.aload_n 0, 1) := dk_42 (dk_at dksX1_holds_2 2 rfl rfl)
theorem dX1_holds_50 : decode cX1_holds 50 = .ok (.getfield 30, 3) := dk_180 0 30 (dk_at dksX1_holds_2 3 rfl rfl)
theorem dX1_holds_53 : decode cX1_holds 53 = .ok (.getfield 161, 3) := dk_180 0 161 (dk_at dksX1_holds_2 6 rfl rfl)
theorem dX1_holds_56 : decode cX1_holds 56 = .ok (.iload 4, 2) := dk_21 4 (dk_at dksX1_holds_2 9 rfl rfl)
theorem dX1_holds_58 : decode cX1_holds 58 = .ok (.iload_n 3, 1) := dk_29 (dk_at dksX1_holds_2 11 rfl rfl)
theorem dX1_holds_59 : decode cX1_holds 59 = .ok (.if_icmp .ne 7, 3) := dk_160 0 7 (dk_at dksX1_holds_2 12 rfl rfl)
theorem dX1_holds_62 : decode cX1_holds 62 = .ok (.iconst 1, 1) := dk_4 (dk_at dksX1_holds_2 15 rfl rfl)
theorem dX1_holds_63 : decode cX1_holds 63 = .ok (.goto 4, 3) := dk_167 0 4 (dk_at dksX1_holds_2 16 rfl rfl)
theorem dX1_holds_66 : decode cX1_holds 66 = .ok (.iconst 0, 1) := dk_3 (dk_at dksX1_holds_2 19 rfl rfl)
theorem dX1_holds_67 : decode cX1_holds 67 = .ok (.invokevirtual 253, 3) := dk_182 0 253 (dk_at dksX1_holds_2 20 rfl rfl)
theorem dX1_holds_70 : decode cX1_holds 70 = .ok (.if_icmp .gt 26, 3) := dk_163 0 26 (dk_at dksX1_holds_3 0 rfl rfl)
theorem dX1_holds_73 : decode cX1_holds 73 = .ok (.aload_n 0, 1) := dk_42 (dk_at dksX1_holds_3 3 rfl rfl)
theorem dX1_holds_74 : decode cX1_holds 74 = .ok (.iload 4, 2) := dk_21 4 (dk_at dksX1_holds_3 4 rfl rfl)
theorem dX1_holds_76 : decode cX1_holds 76 = .ok (.invokevirtual 257, 3) := dk_182 1 1 (dk_at dksX1_holds_3 6 rfl rfl)
theorem dX1_holds_79 : decode cX1_holds 79 = .ok (.invokestatic 259, 3) := dk_184 1 3 (dk_at dksX1_holds_3 9 rfl rfl)
theorem dX1_holds_82 : decode cX1_holds 82 = .ok (.aload_n 0, 1) := dk_42 (dk_at dksX1_holds_3 12 rfl rfl)
theorem dX1_holds_83 : decode cX1_holds 83 = .ok (.getfield 10, 3) := dk_180 0 10 (dk_at dksX1_holds_3 13 rfl rfl)
theorem dX1_holds_86 : decode cX1_holds 86 = .ok (.getfield 141, 3) := dk_180 0 141 (dk_at dksX1_holds_3 16 rfl rfl)
theorem dX1_holds_89 : decode cX1_holds 89 = .ok (.if_icmp .gt 7, 3) := dk_163 0 7 (dk_at dksX1_holds_3 19 rfl rfl)
theorem dX1_holds_92 : decode cX1_holds 92 = .ok (.iconst 1, 1) := dk_4 (dk_at dksX1_holds_3 22 rfl rfl)
theorem dX1_holds_93 : decode cX1_holds 93 = .ok (.goto 4, 3) := dk_167 0 4 (dk_at dksX1_holds_4 0 rfl rfl)
theorem dX1_holds_96 : decode cX1_holds 96 = .ok (.iconst 0, 1) := dk_3 (dk_at dksX1_holds_4 3 rfl rfl)
theorem dX1_holds_97 : decode cX1_holds 97 = .ok (.ireturn, 1) := dk_172 (dk_at dksX1_holds_4 4 rfl rfl)
abbrev cX1_weights : ByteArray := prog_1_method_29_code
def yX1_weights : MethodName := ⟨RX1, "weights", "(I)I"⟩
def dkwX1_weights_2 : List UInt8 := [46, 96, 96, 61, 132, 3, 1, 167, 255, 206, 28, 172]
abbrev dktX1_weights_2 : List UInt8 := dkwX1_weights_2 ++ []
def dkwX1_weights_1 : List UInt8 := [180, 0, 10, 180, 0, 73, 29, 182, 0, 89, 192, 0, 93, 180, 0, 170, 42, 180, 0, 30, 180, 0, 183, 29]
abbrev dktX1_weights_1 : List UInt8 := dkwX1_weights_1 ++ dktX1_weights_2
def dkwX1_weights_0 : List UInt8 := [3, 61, 3, 62, 29, 42, 182, 0, 83, 162, 0, 48, 27, 29, 122, 4, 126, 4, 160, 0, 33, 28, 42]
abbrev dktX1_weights_0 : List UInt8 := dkwX1_weights_0 ++ dktX1_weights_1
theorem dksX1_weights_0 : cX1_weights.data.toList.drop 0 = dktX1_weights_0 := by decide +kernel
theorem dksX1_weights_1 : cX1_weights.data.toList.drop 23 = dktX1_weights_1 := dk_seg dksX1_weights_0 23 rfl rfl
theorem dksX1_weights_2 : cX1_weights.data.toList.drop 47 = dktX1_weights_2 := dk_seg dksX1_weights_1 24 rfl rfl
theorem dX1_weights_0 : decode cX1_weights 0 = .ok (.iconst 0, 1) := dk_3 (dk_at dksX1_weights_0 0 rfl rfl)
theorem dX1_weights_1 : decode cX1_weights 1 = .ok (.istore_n 2, 1) := dk_61 (dk_at dksX1_weights_0 1 rfl rfl)
theorem dX1_weights_2 : decode cX1_weights 2 = .ok (.iconst 0, 1) := dk_3 (dk_at dksX1_weights_0 2 rfl rfl)
theorem dX1_weights_3 : decode cX1_weights 3 = .ok (.istore_n 3, 1) := dk_62 (dk_at dksX1_weights_0 3 rfl rfl)
theorem dX1_weights_4 : decode cX1_weights 4 = .ok (.iload_n 3, 1) := dk_29 (dk_at dksX1_weights_0 4 rfl rfl)
theorem dX1_weights_5 : decode cX1_weights 5 = .ok (.aload_n 0, 1) := dk_42 (dk_at dksX1_weights_0 5 rfl rfl)
theorem dX1_weights_6 : decode cX1_weights 6 = .ok (.invokevirtual 83, 3) := dk_182 0 83 (dk_at dksX1_weights_0 6 rfl rfl)
theorem dX1_weights_9 : decode cX1_weights 9 = .ok (.if_icmp .ge 48, 3) := dk_162 0 48 (dk_at dksX1_weights_0 9 rfl rfl)
theorem dX1_weights_12 : decode cX1_weights 12 = .ok (.iload_n 1, 1) := dk_27 (dk_at dksX1_weights_0 12 rfl rfl)
theorem dX1_weights_13 : decode cX1_weights 13 = .ok (.iload_n 3, 1) := dk_29 (dk_at dksX1_weights_0 13 rfl rfl)
theorem dX1_weights_14 : decode cX1_weights 14 = .ok (.ishr, 1) := dk_122 (dk_at dksX1_weights_0 14 rfl rfl)
theorem dX1_weights_15 : decode cX1_weights 15 = .ok (.iconst 1, 1) := dk_4 (dk_at dksX1_weights_0 15 rfl rfl)
theorem dX1_weights_16 : decode cX1_weights 16 = .ok (.iand, 1) := dk_126 (dk_at dksX1_weights_0 16 rfl rfl)
theorem dX1_weights_17 : decode cX1_weights 17 = .ok (.iconst 1, 1) := dk_4 (dk_at dksX1_weights_0 17 rfl rfl)
theorem dX1_weights_18 : decode cX1_weights 18 = .ok (.if_icmp .ne 33, 3) := dk_160 0 33 (dk_at dksX1_weights_0 18 rfl rfl)
theorem dX1_weights_21 : decode cX1_weights 21 = .ok (.iload_n 2, 1) := dk_28 (dk_at dksX1_weights_0 21 rfl rfl)
theorem dX1_weights_22 : decode cX1_weights 22 = .ok (.aload_n 0, 1) := dk_42 (dk_at dksX1_weights_0 22 rfl rfl)
theorem dX1_weights_23 : decode cX1_weights 23 = .ok (.getfield 10, 3) := dk_180 0 10 (dk_at dksX1_weights_1 0 rfl rfl)
theorem dX1_weights_26 : decode cX1_weights 26 = .ok (.getfield 73, 3) := dk_180 0 73 (dk_at dksX1_weights_1 3 rfl rfl)
theorem dX1_weights_29 : decode cX1_weights 29 = .ok (.iload_n 3, 1) := dk_29 (dk_at dksX1_weights_1 6 rfl rfl)
theorem dX1_weights_30 : decode cX1_weights 30 = .ok (.invokevirtual 89, 3) := dk_182 0 89 (dk_at dksX1_weights_1 7 rfl rfl)
theorem dX1_weights_33 : decode cX1_weights 33 = .ok (.checkcast 93, 3) := dk_192 0 93 (dk_at dksX1_weights_1 10 rfl rfl)
theorem dX1_weights_36 : decode cX1_weights 36 = .ok (.getfield 170, 3) := dk_180 0 170 (dk_at dksX1_weights_1 13 rfl rfl)
theorem dX1_weights_39 : decode cX1_weights 39 = .ok (.aload_n 0, 1) := dk_42 (dk_at dksX1_weights_1 16 rfl rfl)
theorem dX1_weights_40 : decode cX1_weights 40 = .ok (.getfield 30, 3) := dk_180 0 30 (dk_at dksX1_weights_1 17 rfl rfl)
theorem dX1_weights_43 : decode cX1_weights 43 = .ok (.getfield 183, 3) := dk_180 0 183 (dk_at dksX1_weights_1 20 rfl rfl)
theorem dX1_weights_46 : decode cX1_weights 46 = .ok (.iload_n 3, 1) := dk_29 (dk_at dksX1_weights_1 23 rfl rfl)
theorem dX1_weights_47 : decode cX1_weights 47 = .ok (.iaload, 1) := dk_46 (dk_at dksX1_weights_2 0 rfl rfl)
theorem dX1_weights_48 : decode cX1_weights 48 = .ok (.iadd, 1) := dk_96 (dk_at dksX1_weights_2 1 rfl rfl)
theorem dX1_weights_49 : decode cX1_weights 49 = .ok (.iadd, 1) := dk_96 (dk_at dksX1_weights_2 2 rfl rfl)
theorem dX1_weights_50 : decode cX1_weights 50 = .ok (.istore_n 2, 1) := dk_61 (dk_at dksX1_weights_2 3 rfl rfl)
theorem dX1_weights_51 : decode cX1_weights 51 = .ok (.iinc 3 1, 3) := dk_132 3 1 (dk_at dksX1_weights_2 4 rfl rfl)
theorem dX1_weights_54 : decode cX1_weights 54 = .ok (.goto (-50), 3) := dk_167 255 206 (dk_at dksX1_weights_2 7 rfl rfl)
theorem dX1_weights_57 : decode cX1_weights 57 = .ok (.iload_n 2, 1) := dk_28 (dk_at dksX1_weights_2 10 rfl rfl)
theorem dX1_weights_58 : decode cX1_weights 58 = .ok (.ireturn, 1) := dk_172 (dk_at dksX1_weights_2 11 rfl rfl)
abbrev cX1_leans : ByteArray := prog_1_method_30_code
def yX1_leans : MethodName := ⟨RX1, "leans", "(I)I"⟩
def dkwX1_leans_1 : List UInt8 := [180, 0, 30, 42, 180, 0, 10, 29, 182, 0, 247, 96, 61, 132, 3, 1, 167, 255, 221, 28, 172]
abbrev dktX1_leans_1 : List UInt8 := dkwX1_leans_1 ++ []
def dkwX1_leans_0 : List UInt8 := [3, 61, 3, 62, 29, 42, 182, 0, 83, 162, 0, 33, 27, 29, 122, 4, 126, 4, 160, 0, 18, 28, 42]
abbrev dktX1_leans_0 : List UInt8 := dkwX1_leans_0 ++ dktX1_leans_1
theorem dksX1_leans_0 : cX1_leans.data.toList.drop 0 = dktX1_leans_0 := by decide +kernel
theorem dksX1_leans_1 : cX1_leans.data.toList.drop 23 = dktX1_leans_1 := dk_seg dksX1_leans_0 23 rfl rfl
theorem dX1_leans_0 : decode cX1_leans 0 = .ok (.iconst 0, 1) := dk_3 (dk_at dksX1_leans_0 0 rfl rfl)
theorem dX1_leans_1 : decode cX1_leans 1 = .ok (.istore_n 2, 1) := dk_61 (dk_at dksX1_leans_0 1 rfl rfl)
theorem dX1_leans_2 : decode cX1_leans 2 = .ok (.iconst 0, 1) := dk_3 (dk_at dksX1_leans_0 2 rfl rfl)
theorem dX1_leans_3 : decode cX1_leans 3 = .ok (.istore_n 3, 1) := dk_62 (dk_at dksX1_leans_0 3 rfl rfl)
theorem dX1_leans_4 : decode cX1_leans 4 = .ok (.iload_n 3, 1) := dk_29 (dk_at dksX1_leans_0 4 rfl rfl)
theorem dX1_leans_5 : decode cX1_leans 5 = .ok (.aload_n 0, 1) := dk_42 (dk_at dksX1_leans_0 5 rfl rfl)
theorem dX1_leans_6 : decode cX1_leans 6 = .ok (.invokevirtual 83, 3) := dk_182 0 83 (dk_at dksX1_leans_0 6 rfl rfl)
theorem dX1_leans_9 : decode cX1_leans 9 = .ok (.if_icmp .ge 33, 3) := dk_162 0 33 (dk_at dksX1_leans_0 9 rfl rfl)
theorem dX1_leans_12 : decode cX1_leans 12 = .ok (.iload_n 1, 1) := dk_27 (dk_at dksX1_leans_0 12 rfl rfl)
theorem dX1_leans_13 : decode cX1_leans 13 = .ok (.iload_n 3, 1) := dk_29 (dk_at dksX1_leans_0 13 rfl rfl)
theorem dX1_leans_14 : decode cX1_leans 14 = .ok (.ishr, 1) := dk_122 (dk_at dksX1_leans_0 14 rfl rfl)
theorem dX1_leans_15 : decode cX1_leans 15 = .ok (.iconst 1, 1) := dk_4 (dk_at dksX1_leans_0 15 rfl rfl)
theorem dX1_leans_16 : decode cX1_leans 16 = .ok (.iand, 1) := dk_126 (dk_at dksX1_leans_0 16 rfl rfl)
theorem dX1_leans_17 : decode cX1_leans 17 = .ok (.iconst 1, 1) := dk_4 (dk_at dksX1_leans_0 17 rfl rfl)
theorem dX1_leans_18 : decode cX1_leans 18 = .ok (.if_icmp .ne 18, 3) := dk_160 0 18 (dk_at dksX1_leans_0 18 rfl rfl)
theorem dX1_leans_21 : decode cX1_leans 21 = .ok (.iload_n 2, 1) := dk_28 (dk_at dksX1_leans_0 21 rfl rfl)
theorem dX1_leans_22 : decode cX1_leans 22 = .ok (.aload_n 0, 1) := dk_42 (dk_at dksX1_leans_0 22 rfl rfl)
theorem dX1_leans_23 : decode cX1_leans 23 = .ok (.getfield 30, 3) := dk_180 0 30 (dk_at dksX1_leans_1 0 rfl rfl)
theorem dX1_leans_26 : decode cX1_leans 26 = .ok (.aload_n 0, 1) := dk_42 (dk_at dksX1_leans_1 3 rfl rfl)
theorem dX1_leans_27 : decode cX1_leans 27 = .ok (.getfield 10, 3) := dk_180 0 10 (dk_at dksX1_leans_1 4 rfl rfl)
theorem dX1_leans_30 : decode cX1_leans 30 = .ok (.iload_n 3, 1) := dk_29 (dk_at dksX1_leans_1 7 rfl rfl)
theorem dX1_leans_31 : decode cX1_leans 31 = .ok (.invokevirtual 247, 3) := dk_182 0 247 (dk_at dksX1_leans_1 8 rfl rfl)
theorem dX1_leans_34 : decode cX1_leans 34 = .ok (.iadd, 1) := dk_96 (dk_at dksX1_leans_1 11 rfl rfl)
theorem dX1_leans_35 : decode cX1_leans 35 = .ok (.istore_n 2, 1) := dk_61 (dk_at dksX1_leans_1 12 rfl rfl)
theorem dX1_leans_36 : decode cX1_leans 36 = .ok (.iinc 3 1, 3) := dk_132 3 1 (dk_at dksX1_leans_1 13 rfl rfl)
theorem dX1_leans_39 : decode cX1_leans 39 = .ok (.goto (-35), 3) := dk_167 255 221 (dk_at dksX1_leans_1 16 rfl rfl)
theorem dX1_leans_42 : decode cX1_leans 42 = .ok (.iload_n 2, 1) := dk_28 (dk_at dksX1_leans_1 19 rfl rfl)
theorem dX1_leans_43 : decode cX1_leans 43 = .ok (.ireturn, 1) := dk_172 (dk_at dksX1_leans_1 20 rfl rfl)
abbrev cX1_wedges : ByteArray := prog_1_method_39_code
def yX1_wedges : MethodName := ⟨RX1, "wedges", "()I"⟩
def dkwX1_wedges_1 : List UInt8 := [42, 3, 3, 42, 180, 0, 53, 182, 1, 36, 60, 27, 19, 1, 32, 161, 0, 7, 2, 167, 0, 4, 27, 172]
abbrev dktX1_wedges_1 : List UInt8 := dkwX1_wedges_1 ++ []
def dkwX1_wedges_0 : List UInt8 := [3, 60, 27, 42, 180, 0, 53, 190, 162, 0, 16, 42, 180, 0, 53, 27, 2, 79, 132, 1, 1, 167, 255, 237]
abbrev dktX1_wedges_0 : List UInt8 := dkwX1_wedges_0 ++ dktX1_wedges_1
theorem dksX1_wedges_0 : cX1_wedges.data.toList.drop 0 = dktX1_wedges_0 := by decide +kernel
theorem dksX1_wedges_1 : cX1_wedges.data.toList.drop 24 = dktX1_wedges_1 := dk_seg dksX1_wedges_0 24 rfl rfl
theorem dX1_wedges_0 : decode cX1_wedges 0 = .ok (.iconst 0, 1) := dk_3 (dk_at dksX1_wedges_0 0 rfl rfl)
theorem dX1_wedges_1 : decode cX1_wedges 1 = .ok (.istore_n 1, 1) := dk_60 (dk_at dksX1_wedges_0 1 rfl rfl)
theorem dX1_wedges_2 : decode cX1_wedges 2 = .ok (.iload_n 1, 1) := dk_27 (dk_at dksX1_wedges_0 2 rfl rfl)
theorem dX1_wedges_3 : decode cX1_wedges 3 = .ok (.aload_n 0, 1) := dk_42 (dk_at dksX1_wedges_0 3 rfl rfl)
theorem dX1_wedges_4 : decode cX1_wedges 4 = .ok (.getfield 53, 3) := dk_180 0 53 (dk_at dksX1_wedges_0 4 rfl rfl)
theorem dX1_wedges_7 : decode cX1_wedges 7 = .ok (.arraylength, 1) := dk_190 (dk_at dksX1_wedges_0 7 rfl rfl)
theorem dX1_wedges_8 : decode cX1_wedges 8 = .ok (.if_icmp .ge 16, 3) := dk_162 0 16 (dk_at dksX1_wedges_0 8 rfl rfl)
theorem dX1_wedges_11 : decode cX1_wedges 11 = .ok (.aload_n 0, 1) := dk_42 (dk_at dksX1_wedges_0 11 rfl rfl)
theorem dX1_wedges_12 : decode cX1_wedges 12 = .ok (.getfield 53, 3) := dk_180 0 53 (dk_at dksX1_wedges_0 12 rfl rfl)
theorem dX1_wedges_15 : decode cX1_wedges 15 = .ok (.iload_n 1, 1) := dk_27 (dk_at dksX1_wedges_0 15 rfl rfl)
theorem dX1_wedges_16 : decode cX1_wedges 16 = .ok (.iconst (-1), 1) := dk_2 (dk_at dksX1_wedges_0 16 rfl rfl)
theorem dX1_wedges_17 : decode cX1_wedges 17 = .ok (.iastore, 1) := dk_79 (dk_at dksX1_wedges_0 17 rfl rfl)
theorem dX1_wedges_18 : decode cX1_wedges 18 = .ok (.iinc 1 1, 3) := dk_132 1 1 (dk_at dksX1_wedges_0 18 rfl rfl)
theorem dX1_wedges_21 : decode cX1_wedges 21 = .ok (.goto (-19), 3) := dk_167 255 237 (dk_at dksX1_wedges_0 21 rfl rfl)
theorem dX1_wedges_24 : decode cX1_wedges 24 = .ok (.aload_n 0, 1) := dk_42 (dk_at dksX1_wedges_1 0 rfl rfl)
theorem dX1_wedges_25 : decode cX1_wedges 25 = .ok (.iconst 0, 1) := dk_3 (dk_at dksX1_wedges_1 1 rfl rfl)
theorem dX1_wedges_26 : decode cX1_wedges 26 = .ok (.iconst 0, 1) := dk_3 (dk_at dksX1_wedges_1 2 rfl rfl)
theorem dX1_wedges_27 : decode cX1_wedges 27 = .ok (.aload_n 0, 1) := dk_42 (dk_at dksX1_wedges_1 3 rfl rfl)
theorem dX1_wedges_28 : decode cX1_wedges 28 = .ok (.getfield 53, 3) := dk_180 0 53 (dk_at dksX1_wedges_1 4 rfl rfl)
theorem dX1_wedges_31 : decode cX1_wedges 31 = .ok (.invokevirtual 292, 3) := dk_182 1 36 (dk_at dksX1_wedges_1 7 rfl rfl)
theorem dX1_wedges_34 : decode cX1_wedges 34 = .ok (.istore_n 1, 1) := dk_60 (dk_at dksX1_wedges_1 10 rfl rfl)
theorem dX1_wedges_35 : decode cX1_wedges 35 = .ok (.iload_n 1, 1) := dk_27 (dk_at dksX1_wedges_1 11 rfl rfl)
theorem dX1_wedges_36 : decode cX1_wedges 36 = .ok (.ldc_w 288, 3) := dk_19 1 32 (dk_at dksX1_wedges_1 12 rfl rfl)
theorem dX1_wedges_39 : decode cX1_wedges 39 = .ok (.if_icmp .lt 7, 3) := dk_161 0 7 (dk_at dksX1_wedges_1 15 rfl rfl)
theorem dX1_wedges_42 : decode cX1_wedges 42 = .ok (.iconst (-1), 1) := dk_2 (dk_at dksX1_wedges_1 18 rfl rfl)
theorem dX1_wedges_43 : decode cX1_wedges 43 = .ok (.goto 4, 3) := dk_167 0 4 (dk_at dksX1_wedges_1 19 rfl rfl)
theorem dX1_wedges_46 : decode cX1_wedges 46 = .ok (.iload_n 1, 1) := dk_27 (dk_at dksX1_wedges_1 22 rfl rfl)
theorem dX1_wedges_47 : decode cX1_wedges 47 = .ok (.ireturn, 1) := dk_172 (dk_at dksX1_wedges_1 23 rfl rfl)
abbrev cX1_wedgesFrom : ByteArray := prog_1_method_38_code
def yX1_wedgesFrom : MethodName := ⟨RX1, "wedgesFrom", "(II[I)I"⟩
def dkwX1_wedgesFrom_6 : List UInt8 := [167, 255, 172, 45, 21, 4, 21, 6, 79, 21, 6, 172]
abbrev dktX1_wedgesFrom_6 : List UInt8 := dkwX1_wedgesFrom_6 ++ []
def dkwX1_wedgesFrom_5 : List UInt8 := [184, 1, 3, 42, 27, 4, 96, 21, 8, 45, 182, 1, 36, 96, 184, 1, 40, 54, 6, 132, 7, 1]
abbrev dktX1_wedgesFrom_5 : List UInt8 := dkwX1_wedgesFrom_5 ++ dktX1_wedgesFrom_6
def dkwX1_wedgesFrom_4 : List UInt8 := [104, 96, 54, 8, 21, 8, 184, 1, 3, 42, 180, 0, 10, 180, 0, 141, 163, 0, 26, 21, 6, 21, 7]
abbrev dktX1_wedgesFrom_4 : List UInt8 := dkwX1_wedgesFrom_4 ++ dktX1_wedgesFrom_5
def dkwX1_wedgesFrom_3 : List UInt8 := [21, 5, 46, 21, 7, 96, 42, 180, 0, 10, 180, 0, 73, 21, 5, 182, 0, 89, 192, 0, 93, 182, 1, 33]
abbrev dktX1_wedgesFrom_3 : List UInt8 := dkwX1_wedgesFrom_3 ++ dktX1_wedgesFrom_4
def dkwX1_wedgesFrom_2 : List UInt8 := [19, 1, 32, 54, 6, 16, 247, 54, 7, 21, 7, 16, 9, 163, 0, 83, 28, 42, 180, 0, 30, 180, 0, 177]
abbrev dktX1_wedgesFrom_2 : List UInt8 := dkwX1_wedgesFrom_2 ++ dktX1_wedgesFrom_3
def dkwX1_wedgesFrom_1 : List UInt8 := [45, 21, 4, 46, 2, 159, 0, 8, 45, 21, 4, 46, 172, 42, 180, 0, 30, 180, 0, 195, 27, 46, 54, 5]
abbrev dktX1_wedgesFrom_1 : List UInt8 := dkwX1_wedgesFrom_1 ++ dktX1_wedgesFrom_2
def dkwX1_wedgesFrom_0 : List UInt8 := [27, 42, 180, 0, 30, 180, 0, 95, 160, 0, 5, 3, 172, 16, 81, 27, 104, 28, 96, 16, 40, 96, 54, 4]
abbrev dktX1_wedgesFrom_0 : List UInt8 := dkwX1_wedgesFrom_0 ++ dktX1_wedgesFrom_1
theorem dksX1_wedgesFrom_0 : cX1_wedgesFrom.data.toList.drop 0 = dktX1_wedgesFrom_0 := by decide +kernel
theorem dksX1_wedgesFrom_1 : cX1_wedgesFrom.data.toList.drop 24 = dktX1_wedgesFrom_1 := dk_seg dksX1_wedgesFrom_0 24 rfl rfl
theorem dksX1_wedgesFrom_2 : cX1_wedgesFrom.data.toList.drop 48 = dktX1_wedgesFrom_2 := dk_seg dksX1_wedgesFrom_1 24 rfl rfl
theorem dksX1_wedgesFrom_3 : cX1_wedgesFrom.data.toList.drop 72 = dktX1_wedgesFrom_3 := dk_seg dksX1_wedgesFrom_2 24 rfl rfl
theorem dksX1_wedgesFrom_4 : cX1_wedgesFrom.data.toList.drop 96 = dktX1_wedgesFrom_4 := dk_seg dksX1_wedgesFrom_3 24 rfl rfl
theorem dksX1_wedgesFrom_5 : cX1_wedgesFrom.data.toList.drop 119 = dktX1_wedgesFrom_5 := dk_seg dksX1_wedgesFrom_4 23 rfl rfl
theorem dksX1_wedgesFrom_6 : cX1_wedgesFrom.data.toList.drop 141 = dktX1_wedgesFrom_6 := dk_seg dksX1_wedgesFrom_5 22 rfl rfl
theorem dX1_wedgesFrom_0 : decode cX1_wedgesFrom 0 = .ok (.iload_n 1, 1) := dk_27 (dk_at dksX1_wedgesFrom_0 0 rfl rfl)
theorem dX1_wedgesFrom_1 : decode cX1_wedgesFrom 1 = .ok (.aload_n 0, 1) := dk_42 (dk_at dksX1_wedgesFrom_0 1 rfl rfl)
theorem dX1_wedgesFrom_2 : decode cX1_wedgesFrom 2 = .ok (.getfield 30, 3) := dk_180 0 30 (dk_at dksX1_wedgesFrom_0 2 rfl rfl)
theorem dX1_wedgesFrom_5 : decode cX1_wedgesFrom 5 = .ok (.getfield 95, 3) := dk_180 0 95 (dk_at dksX1_wedgesFrom_0 5 rfl rfl)
theorem dX1_wedgesFrom_8 : decode cX1_wedgesFrom 8 = .ok (.if_icmp .ne 5, 3) := dk_160 0 5 (dk_at dksX1_wedgesFrom_0 8 rfl rfl)
theorem dX1_wedgesFrom_11 : decode cX1_wedgesFrom 11 = .ok (.iconst 0, 1) := dk_3 (dk_at dksX1_wedgesFrom_0 11 rfl rfl)
theorem dX1_wedgesFrom_12 : decode cX1_wedgesFrom 12 = .ok (.ireturn, 1) := dk_172 (dk_at dksX1_wedgesFrom_0 12 rfl rfl)
theorem dX1_wedgesFrom_13 : decode cX1_wedgesFrom 13 = .ok (.bipush 81, 2) := dk_16 81 (dk_at dksX1_wedgesFrom_0 13 rfl rfl)
theorem dX1_wedgesFrom_15 : decode cX1_wedgesFrom 15 = .ok (.iload_n 1, 1) := dk_27 (dk_at dksX1_wedgesFrom_0 15 rfl rfl)
theorem dX1_wedgesFrom_16 : decode cX1_wedgesFrom 16 = .ok (.imul, 1) := dk_104 (dk_at dksX1_wedgesFrom_0 16 rfl rfl)
theorem dX1_wedgesFrom_17 : decode cX1_wedgesFrom 17 = .ok (.iload_n 2, 1) := dk_28 (dk_at dksX1_wedgesFrom_0 17 rfl rfl)
theorem dX1_wedgesFrom_18 : decode cX1_wedgesFrom 18 = .ok (.iadd, 1) := dk_96 (dk_at dksX1_wedgesFrom_0 18 rfl rfl)
theorem dX1_wedgesFrom_19 : decode cX1_wedgesFrom 19 = .ok (.bipush 40, 2) := dk_16 40 (dk_at dksX1_wedgesFrom_0 19 rfl rfl)
theorem dX1_wedgesFrom_21 : decode cX1_wedgesFrom 21 = .ok (.iadd, 1) := dk_96 (dk_at dksX1_wedgesFrom_0 21 rfl rfl)
theorem dX1_wedgesFrom_22 : decode cX1_wedgesFrom 22 = .ok (.istore 4, 2) := dk_54 4 (dk_at dksX1_wedgesFrom_0 22 rfl rfl)
theorem dX1_wedgesFrom_24 : decode cX1_wedgesFrom 24 = .ok (.aload_n 3, 1) := dk_45 (dk_at dksX1_wedgesFrom_1 0 rfl rfl)
theorem dX1_wedgesFrom_25 : decode cX1_wedgesFrom 25 = .ok (.iload 4, 2) := dk_21 4 (dk_at dksX1_wedgesFrom_1 1 rfl rfl)
theorem dX1_wedgesFrom_27 : decode cX1_wedgesFrom 27 = .ok (.iaload, 1) := dk_46 (dk_at dksX1_wedgesFrom_1 3 rfl rfl)
theorem dX1_wedgesFrom_28 : decode cX1_wedgesFrom 28 = .ok (.iconst (-1), 1) := dk_2 (dk_at dksX1_wedgesFrom_1 4 rfl rfl)
theorem dX1_wedgesFrom_29 : decode cX1_wedgesFrom 29 = .ok (.if_icmp .eq 8, 3) := dk_159 0 8 (dk_at dksX1_wedgesFrom_1 5 rfl rfl)
theorem dX1_wedgesFrom_32 : decode cX1_wedgesFrom 32 = .ok (.aload_n 3, 1) := dk_45 (dk_at dksX1_wedgesFrom_1 8 rfl rfl)
theorem dX1_wedgesFrom_33 : decode cX1_wedgesFrom 33 = .ok (.iload 4, 2) := dk_21 4 (dk_at dksX1_wedgesFrom_1 9 rfl rfl)
theorem dX1_wedgesFrom_35 : decode cX1_wedgesFrom 35 = .ok (.iaload, 1) := dk_46 (dk_at dksX1_wedgesFrom_1 11 rfl rfl)
theorem dX1_wedgesFrom_36 : decode cX1_wedgesFrom 36 = .ok (.ireturn, 1) := dk_172 (dk_at dksX1_wedgesFrom_1 12 rfl rfl)
theorem dX1_wedgesFrom_37 : decode cX1_wedgesFrom 37 = .ok (.aload_n 0, 1) := dk_42 (dk_at dksX1_wedgesFrom_1 13 rfl rfl)
theorem dX1_wedgesFrom_38 : decode cX1_wedgesFrom 38 = .ok (.getfield 30, 3) := dk_180 0 30 (dk_at dksX1_wedgesFrom_1 14 rfl rfl)
theorem dX1_wedgesFrom_41 : decode cX1_wedgesFrom 41 = .ok (.getfield 195, 3) := dk_180 0 195 (dk_at dksX1_wedgesFrom_1 17 rfl rfl)
theorem dX1_wedgesFrom_44 : decode cX1_wedgesFrom 44 = .ok (.iload_n 1, 1) := dk_27 (dk_at dksX1_wedgesFrom_1 20 rfl rfl)
theorem dX1_wedgesFrom_45 : decode cX1_wedgesFrom 45 = .ok (.iaload, 1) := dk_46 (dk_at dksX1_wedgesFrom_1 21 rfl rfl)
theorem dX1_wedgesFrom_46 : decode cX1_wedgesFrom 46 = .ok (.istore 5, 2) := dk_54 5 (dk_at dksX1_wedgesFrom_1 22 rfl rfl)
theorem dX1_wedgesFrom_48 : decode cX1_wedgesFrom 48 = .ok (.ldc_w 288, 3) := dk_19 1 32 (dk_at dksX1_wedgesFrom_2 0 rfl rfl)
theorem dX1_wedgesFrom_51 : decode cX1_wedgesFrom 51 = .ok (.istore 6, 2) := dk_54 6 (dk_at dksX1_wedgesFrom_2 3 rfl rfl)
theorem dX1_wedgesFrom_53 : decode cX1_wedgesFrom 53 = .ok (.bipush (-9), 2) := dk_16 247 (dk_at dksX1_wedgesFrom_2 5 rfl rfl)
theorem dX1_wedgesFrom_55 : decode cX1_wedgesFrom 55 = .ok (.istore 7, 2) := dk_54 7 (dk_at dksX1_wedgesFrom_2 7 rfl rfl)
theorem dX1_wedgesFrom_57 : decode cX1_wedgesFrom 57 = .ok (.iload 7, 2) := dk_21 7 (dk_at dksX1_wedgesFrom_2 9 rfl rfl)
theorem dX1_wedgesFrom_59 : decode cX1_wedgesFrom 59 = .ok (.bipush 9, 2) := dk_16 9 (dk_at dksX1_wedgesFrom_2 11 rfl rfl)
theorem dX1_wedgesFrom_61 : decode cX1_wedgesFrom 61 = .ok (.if_icmp .gt 83, 3) := dk_163 0 83 (dk_at dksX1_wedgesFrom_2 13 rfl rfl)
theorem dX1_wedgesFrom_64 : decode cX1_wedgesFrom 64 = .ok (.iload_n 2, 1) := dk_28 (dk_at dksX1_wedgesFrom_2 16 rfl rfl)
theorem dX1_wedgesFrom_65 : decode cX1_wedgesFrom 65 = .ok (.aload_n 0, 1) := dk_42 (dk_at dksX1_wedgesFrom_2 17 rfl rfl)
theorem dX1_wedgesFrom_66 : decode cX1_wedgesFrom 66 = .ok (.getfield 30, 3) := dk_180 0 30 (dk_at dksX1_wedgesFrom_2 18 rfl rfl)
theorem dX1_wedgesFrom_69 : decode cX1_wedgesFrom 69 = .ok (.getfield 177, 3) := dk_180 0 177 (dk_at dksX1_wedgesFrom_2 21 rfl rfl)
theorem dX1_wedgesFrom_72 : decode cX1_wedgesFrom 72 = .ok (.iload 5, 2) := dk_21 5 (dk_at dksX1_wedgesFrom_3 0 rfl rfl)
theorem dX1_wedgesFrom_74 : decode cX1_wedgesFrom 74 = .ok (.iaload, 1) := dk_46 (dk_at dksX1_wedgesFrom_3 2 rfl rfl)
theorem dX1_wedgesFrom_75 : decode cX1_wedgesFrom 75 = .ok (.iload 7, 2) := dk_21 7 (dk_at dksX1_wedgesFrom_3 3 rfl rfl)
theorem dX1_wedgesFrom_77 : decode cX1_wedgesFrom 77 = .ok (.iadd, 1) := dk_96 (dk_at dksX1_wedgesFrom_3 5 rfl rfl)
theorem dX1_wedgesFrom_78 : decode cX1_wedgesFrom 78 = .ok (.aload_n 0, 1) := dk_42 (dk_at dksX1_wedgesFrom_3 6 rfl rfl)
theorem dX1_wedgesFrom_79 : decode cX1_wedgesFrom 79 = .ok (.getfield 10, 3) := dk_180 0 10 (dk_at dksX1_wedgesFrom_3 7 rfl rfl)
theorem dX1_wedgesFrom_82 : decode cX1_wedgesFrom 82 = .ok (.getfield 73, 3) := dk_180 0 73 (dk_at dksX1_wedgesFrom_3 10 rfl rfl)
theorem dX1_wedgesFrom_85 : decode cX1_wedgesFrom 85 = .ok (.iload 5, 2) := dk_21 5 (dk_at dksX1_wedgesFrom_3 13 rfl rfl)
theorem dX1_wedgesFrom_87 : decode cX1_wedgesFrom 87 = .ok (.invokevirtual 89, 3) := dk_182 0 89 (dk_at dksX1_wedgesFrom_3 15 rfl rfl)
theorem dX1_wedgesFrom_90 : decode cX1_wedgesFrom 90 = .ok (.checkcast 93, 3) := dk_192 0 93 (dk_at dksX1_wedgesFrom_3 18 rfl rfl)
theorem dX1_wedgesFrom_93 : decode cX1_wedgesFrom 93 = .ok (.invokevirtual 289, 3) := dk_182 1 33 (dk_at dksX1_wedgesFrom_3 21 rfl rfl)
theorem dX1_wedgesFrom_96 : decode cX1_wedgesFrom 96 = .ok (.imul, 1) := dk_104 (dk_at dksX1_wedgesFrom_4 0 rfl rfl)
theorem dX1_wedgesFrom_97 : decode cX1_wedgesFrom 97 = .ok (.iadd, 1) := dk_96 (dk_at dksX1_wedgesFrom_4 1 rfl rfl)
theorem dX1_wedgesFrom_98 : decode cX1_wedgesFrom 98 = .ok (.istore 8, 2) := dk_54 8 (dk_at dksX1_wedgesFrom_4 2 rfl rfl)
theorem dX1_wedgesFrom_100 : decode cX1_wedgesFrom 100 = .ok (.iload 8, 2) := dk_21 8 (dk_at dksX1_wedgesFrom_4 4 rfl rfl)
theorem dX1_wedgesFrom_102 : decode cX1_wedgesFrom 102 = .ok (.invokestatic 259, 3) := dk_184 1 3 (dk_at dksX1_wedgesFrom_4 6 rfl rfl)
theorem dX1_wedgesFrom_105 : decode cX1_wedgesFrom 105 = .ok (.aload_n 0, 1) := dk_42 (dk_at dksX1_wedgesFrom_4 9 rfl rfl)
theorem dX1_wedgesFrom_106 : decode cX1_wedgesFrom 106 = .ok (.getfield 10, 3) := dk_180 0 10 (dk_at dksX1_wedgesFrom_4 10 rfl rfl)
theorem dX1_wedgesFrom_109 : decode cX1_wedgesFrom 109 = .ok (.getfield 141, 3) := dk_180 0 141 (dk_at dksX1_wedgesFrom_4 13 rfl rfl)
theorem dX1_wedgesFrom_112 : decode cX1_wedgesFrom 112 = .ok (.if_icmp .gt 26, 3) := dk_163 0 26 (dk_at dksX1_wedgesFrom_4 16 rfl rfl)
theorem dX1_wedgesFrom_115 : decode cX1_wedgesFrom 115 = .ok (.iload 6, 2) := dk_21 6 (dk_at dksX1_wedgesFrom_4 19 rfl rfl)
theorem dX1_wedgesFrom_117 : decode cX1_wedgesFrom 117 = .ok (.iload 7, 2) := dk_21 7 (dk_at dksX1_wedgesFrom_4 21 rfl rfl)
theorem dX1_wedgesFrom_119 : decode cX1_wedgesFrom 119 = .ok (.invokestatic 259, 3) := dk_184 1 3 (dk_at dksX1_wedgesFrom_5 0 rfl rfl)
theorem dX1_wedgesFrom_122 : decode cX1_wedgesFrom 122 = .ok (.aload_n 0, 1) := dk_42 (dk_at dksX1_wedgesFrom_5 3 rfl rfl)
theorem dX1_wedgesFrom_123 : decode cX1_wedgesFrom 123 = .ok (.iload_n 1, 1) := dk_27 (dk_at dksX1_wedgesFrom_5 4 rfl rfl)
theorem dX1_wedgesFrom_124 : decode cX1_wedgesFrom 124 = .ok (.iconst 1, 1) := dk_4 (dk_at dksX1_wedgesFrom_5 5 rfl rfl)
theorem dX1_wedgesFrom_125 : decode cX1_wedgesFrom 125 = .ok (.iadd, 1) := dk_96 (dk_at dksX1_wedgesFrom_5 6 rfl rfl)
theorem dX1_wedgesFrom_126 : decode cX1_wedgesFrom 126 = .ok (.iload 8, 2) := dk_21 8 (dk_at dksX1_wedgesFrom_5 7 rfl rfl)
theorem dX1_wedgesFrom_128 : decode cX1_wedgesFrom 128 = .ok (.aload_n 3, 1) := dk_45 (dk_at dksX1_wedgesFrom_5 9 rfl rfl)
theorem dX1_wedgesFrom_129 : decode cX1_wedgesFrom 129 = .ok (.invokevirtual 292, 3) := dk_182 1 36 (dk_at dksX1_wedgesFrom_5 10 rfl rfl)
theorem dX1_wedgesFrom_132 : decode cX1_wedgesFrom 132 = .ok (.iadd, 1) := dk_96 (dk_at dksX1_wedgesFrom_5 13 rfl rfl)
theorem dX1_wedgesFrom_133 : decode cX1_wedgesFrom 133 = .ok (.invokestatic 296, 3) := dk_184 1 40 (dk_at dksX1_wedgesFrom_5 14 rfl rfl)
theorem dX1_wedgesFrom_136 : decode cX1_wedgesFrom 136 = .ok (.istore 6, 2) := dk_54 6 (dk_at dksX1_wedgesFrom_5 17 rfl rfl)
theorem dX1_wedgesFrom_138 : decode cX1_wedgesFrom 138 = .ok (.iinc 7 1, 3) := dk_132 7 1 (dk_at dksX1_wedgesFrom_5 19 rfl rfl)
theorem dX1_wedgesFrom_141 : decode cX1_wedgesFrom 141 = .ok (.goto (-84), 3) := dk_167 255 172 (dk_at dksX1_wedgesFrom_6 0 rfl rfl)
theorem dX1_wedgesFrom_144 : decode cX1_wedgesFrom 144 = .ok (.aload_n 3, 1) := dk_45 (dk_at dksX1_wedgesFrom_6 3 rfl rfl)
theorem dX1_wedgesFrom_145 : decode cX1_wedgesFrom 145 = .ok (.iload 4, 2) := dk_21 4 (dk_at dksX1_wedgesFrom_6 4 rfl rfl)
theorem dX1_wedgesFrom_147 : decode cX1_wedgesFrom 147 = .ok (.iload 6, 2) := dk_21 6 (dk_at dksX1_wedgesFrom_6 6 rfl rfl)
theorem dX1_wedgesFrom_149 : decode cX1_wedgesFrom 149 = .ok (.iastore, 1) := dk_79 (dk_at dksX1_wedgesFrom_6 8 rfl rfl)
theorem dX1_wedgesFrom_150 : decode cX1_wedgesFrom 150 = .ok (.iload 6, 2) := dk_21 6 (dk_at dksX1_wedgesFrom_6 9 rfl rfl)
theorem dX1_wedgesFrom_152 : decode cX1_wedgesFrom 152 = .ok (.ireturn, 1) := dk_172 (dk_at dksX1_wedgesFrom_6 11 rfl rfl)
abbrev cX1_when : ByteArray := prog_1_method_40_code
def yX1_when : MethodName := ⟨RX1, "when", "()I"⟩
def dkwX1_when_2 : List UInt8 := [132, 1, 1, 167, 255, 218, 2, 172]
abbrev dktX1_when_2 : List UInt8 := dkwX1_when_2 ++ []
def dkwX1_when_1 : List UInt8 := [180, 0, 10, 182, 0, 147, 154, 0, 5, 27, 172, 42, 180, 0, 34, 89, 180, 0, 161, 4, 96, 181, 0, 161]
abbrev dktX1_when_1 : List UInt8 := dkwX1_when_1 ++ dktX1_when_2
def dkwX1_when_0 : List UInt8 := [42, 180, 0, 34, 42, 180, 0, 30, 182, 0, 239, 3, 60, 27, 16, 99, 163, 0, 38, 42, 180, 0, 34, 42]
abbrev dktX1_when_0 : List UInt8 := dkwX1_when_0 ++ dktX1_when_1
theorem dksX1_when_0 : cX1_when.data.toList.drop 0 = dktX1_when_0 := by decide +kernel
theorem dksX1_when_1 : cX1_when.data.toList.drop 24 = dktX1_when_1 := dk_seg dksX1_when_0 24 rfl rfl
theorem dksX1_when_2 : cX1_when.data.toList.drop 48 = dktX1_when_2 := dk_seg dksX1_when_1 24 rfl rfl
theorem dX1_when_0 : decode cX1_when 0 = .ok (.aload_n 0, 1) := dk_42 (dk_at dksX1_when_0 0 rfl rfl)
theorem dX1_when_1 : decode cX1_when 1 = .ok (.getfield 34, 3) := dk_180 0 34 (dk_at dksX1_when_0 1 rfl rfl)
theorem dX1_when_4 : decode cX1_when 4 = .ok (.aload_n 0, 1) := dk_42 (dk_at dksX1_when_0 4 rfl rfl)
theorem dX1_when_5 : decode cX1_when 5 = .ok (.getfield 30, 3) := dk_180 0 30 (dk_at dksX1_when_0 5 rfl rfl)
theorem dX1_when_8 : decode cX1_when 8 = .ok (.invokevirtual 239, 3) := dk_182 0 239 (dk_at dksX1_when_0 8 rfl rfl)
theorem dX1_when_11 : decode cX1_when 11 = .ok (.iconst 0, 1) := dk_3 (dk_at dksX1_when_0 11 rfl rfl)
theorem dX1_when_12 : decode cX1_when 12 = .ok (.istore_n 1, 1) := dk_60 (dk_at dksX1_when_0 12 rfl rfl)
theorem dX1_when_13 : decode cX1_when 13 = .ok (.iload_n 1, 1) := dk_27 (dk_at dksX1_when_0 13 rfl rfl)
theorem dX1_when_14 : decode cX1_when 14 = .ok (.bipush 99, 2) := dk_16 99 (dk_at dksX1_when_0 14 rfl rfl)
theorem dX1_when_16 : decode cX1_when 16 = .ok (.if_icmp .gt 38, 3) := dk_163 0 38 (dk_at dksX1_when_0 16 rfl rfl)
theorem dX1_when_19 : decode cX1_when 19 = .ok (.aload_n 0, 1) := dk_42 (dk_at dksX1_when_0 19 rfl rfl)
theorem dX1_when_20 : decode cX1_when 20 = .ok (.getfield 34, 3) := dk_180 0 34 (dk_at dksX1_when_0 20 rfl rfl)
theorem dX1_when_23 : decode cX1_when 23 = .ok (.aload_n 0, 1) := dk_42 (dk_at dksX1_when_0 23 rfl rfl)
theorem dX1_when_24 : decode cX1_when 24 = .ok (.getfield 10, 3) := dk_180 0 10 (dk_at dksX1_when_1 0 rfl rfl)
theorem dX1_when_27 : decode cX1_when 27 = .ok (.invokevirtual 147, 3) := dk_182 0 147 (dk_at dksX1_when_1 3 rfl rfl)
theorem dX1_when_30 : decode cX1_when 30 = .ok (.ifCond .ne 5, 3) := dk_154 0 5 (dk_at dksX1_when_1 6 rfl rfl)
theorem dX1_when_33 : decode cX1_when 33 = .ok (.iload_n 1, 1) := dk_27 (dk_at dksX1_when_1 9 rfl rfl)
theorem dX1_when_34 : decode cX1_when 34 = .ok (.ireturn, 1) := dk_172 (dk_at dksX1_when_1 10 rfl rfl)
theorem dX1_when_35 : decode cX1_when 35 = .ok (.aload_n 0, 1) := dk_42 (dk_at dksX1_when_1 11 rfl rfl)
theorem dX1_when_36 : decode cX1_when 36 = .ok (.getfield 34, 3) := dk_180 0 34 (dk_at dksX1_when_1 12 rfl rfl)
theorem dX1_when_39 : decode cX1_when 39 = .ok (.dup, 1) := dk_89 (dk_at dksX1_when_1 15 rfl rfl)
theorem dX1_when_40 : decode cX1_when 40 = .ok (.getfield 161, 3) := dk_180 0 161 (dk_at dksX1_when_1 16 rfl rfl)
theorem dX1_when_43 : decode cX1_when 43 = .ok (.iconst 1, 1) := dk_4 (dk_at dksX1_when_1 19 rfl rfl)
theorem dX1_when_44 : decode cX1_when 44 = .ok (.iadd, 1) := dk_96 (dk_at dksX1_when_1 20 rfl rfl)
theorem dX1_when_45 : decode cX1_when 45 = .ok (.putfield 161, 3) := dk_181 0 161 (dk_at dksX1_when_1 21 rfl rfl)
theorem dX1_when_48 : decode cX1_when 48 = .ok (.iinc 1 1, 3) := dk_132 1 1 (dk_at dksX1_when_2 0 rfl rfl)
theorem dX1_when_51 : decode cX1_when 51 = .ok (.goto (-38), 3) := dk_167 255 218 (dk_at dksX1_when_2 3 rfl rfl)
theorem dX1_when_54 : decode cX1_when 54 = .ok (.iconst (-1), 1) := dk_2 (dk_at dksX1_when_2 6 rfl rfl)
theorem dX1_when_55 : decode cX1_when 55 = .ok (.ireturn, 1) := dk_172 (dk_at dksX1_when_2 7 rfl rfl)
abbrev cX1_marriages : ByteArray := prog_1_method_44_code
def yX1_marriages : MethodName := ⟨RX1, "marriages", "()I"⟩
def dkwX1_marriages_5 : List UInt8 := [167, 255, 192, 132, 2, 1, 167, 255, 151, 42, 180, 0, 56, 27, 46, 172]
abbrev dktX1_marriages_5 : List UInt8 := dkwX1_marriages_5 ++ []
def dkwX1_marriages_4 : List UInt8 := [42, 180, 0, 56, 21, 4, 4, 21, 5, 120, 2, 130, 126, 46, 4, 96, 184, 1, 53, 79, 132, 5, 1]
abbrev dktX1_marriages_4 : List UInt8 := dkwX1_marriages_4 ++ dktX1_marriages_5
def dkwX1_marriages_3 : List UInt8 := [160, 0, 44, 42, 29, 21, 5, 182, 1, 47, 153, 0, 34, 42, 180, 0, 56, 28, 42, 180, 0, 56, 28, 46]
abbrev dktX1_marriages_3 : List UInt8 := dkwX1_marriages_3 ++ dktX1_marriages_4
def dkwX1_marriages_2 : List UInt8 := [29, 4, 96, 54, 5, 21, 5, 42, 182, 0, 83, 162, 0, 61, 21, 4, 21, 5, 122, 4, 126, 4]
abbrev dktX1_marriages_2 : List UInt8 := dkwX1_marriages_2 ++ dktX1_marriages_3
def dkwX1_marriages_1 : List UInt8 := [184, 1, 50, 62, 28, 28, 4, 100, 126, 54, 4, 42, 180, 0, 56, 28, 42, 180, 0, 56, 21, 4, 46, 79]
abbrev dktX1_marriages_1 : List UInt8 := dkwX1_marriages_1 ++ dktX1_marriages_2
def dkwX1_marriages_0 : List UInt8 := [4, 42, 182, 0, 83, 120, 4, 100, 60, 42, 180, 0, 56, 3, 3, 79, 4, 61, 28, 27, 163, 0, 106, 28]
abbrev dktX1_marriages_0 : List UInt8 := dkwX1_marriages_0 ++ dktX1_marriages_1
theorem dksX1_marriages_0 : cX1_marriages.data.toList.drop 0 = dktX1_marriages_0 := by decide +kernel
theorem dksX1_marriages_1 : cX1_marriages.data.toList.drop 24 = dktX1_marriages_1 := dk_seg dksX1_marriages_0 24 rfl rfl
theorem dksX1_marriages_2 : cX1_marriages.data.toList.drop 48 = dktX1_marriages_2 := dk_seg dksX1_marriages_1 24 rfl rfl
theorem dksX1_marriages_3 : cX1_marriages.data.toList.drop 70 = dktX1_marriages_3 := dk_seg dksX1_marriages_2 22 rfl rfl
theorem dksX1_marriages_4 : cX1_marriages.data.toList.drop 94 = dktX1_marriages_4 := dk_seg dksX1_marriages_3 24 rfl rfl
theorem dksX1_marriages_5 : cX1_marriages.data.toList.drop 117 = dktX1_marriages_5 := dk_seg dksX1_marriages_4 23 rfl rfl
theorem dX1_marriages_0 : decode cX1_marriages 0 = .ok (.iconst 1, 1) := dk_4 (dk_at dksX1_marriages_0 0 rfl rfl)
theorem dX1_marriages_1 : decode cX1_marriages 1 = .ok (.aload_n 0, 1) := dk_42 (dk_at dksX1_marriages_0 1 rfl rfl)
theorem dX1_marriages_2 : decode cX1_marriages 2 = .ok (.invokevirtual 83, 3) := dk_182 0 83 (dk_at dksX1_marriages_0 2 rfl rfl)
theorem dX1_marriages_5 : decode cX1_marriages 5 = .ok (.ishl, 1) := dk_120 (dk_at dksX1_marriages_0 5 rfl rfl)
theorem dX1_marriages_6 : decode cX1_marriages 6 = .ok (.iconst 1, 1) := dk_4 (dk_at dksX1_marriages_0 6 rfl rfl)
theorem dX1_marriages_7 : decode cX1_marriages 7 = .ok (.isub, 1) := dk_100 (dk_at dksX1_marriages_0 7 rfl rfl)
theorem dX1_marriages_8 : decode cX1_marriages 8 = .ok (.istore_n 1, 1) := dk_60 (dk_at dksX1_marriages_0 8 rfl rfl)
theorem dX1_marriages_9 : decode cX1_marriages 9 = .ok (.aload_n 0, 1) := dk_42 (dk_at dksX1_marriages_0 9 rfl rfl)
theorem dX1_marriages_10 : decode cX1_marriages 10 = .ok (.getfield 56, 3) := dk_180 0 56 (dk_at dksX1_marriages_0 10 rfl rfl)
theorem dX1_marriages_13 : decode cX1_marriages 13 = .ok (.iconst 0, 1) := dk_3 (dk_at dksX1_marriages_0 13 rfl rfl)
theorem dX1_marriages_14 : decode cX1_marriages 14 = .ok (.iconst 0, 1) := dk_3 (dk_at dksX1_marriages_0 14 rfl rfl)
theorem dX1_marriages_15 : decode cX1_marriages 15 = .ok (.iastore, 1) := dk_79 (dk_at dksX1_marriages_0 15 rfl rfl)
theorem dX1_marriages_16 : decode cX1_marriages 16 = .ok (.iconst 1, 1) := dk_4 (dk_at dksX1_marriages_0 16 rfl rfl)
theorem dX1_marriages_17 : decode cX1_marriages 17 = .ok (.istore_n 2, 1) := dk_61 (dk_at dksX1_marriages_0 17 rfl rfl)
theorem dX1_marriages_18 : decode cX1_marriages 18 = .ok (.iload_n 2, 1) := dk_28 (dk_at dksX1_marriages_0 18 rfl rfl)
theorem dX1_marriages_19 : decode cX1_marriages 19 = .ok (.iload_n 1, 1) := dk_27 (dk_at dksX1_marriages_0 19 rfl rfl)
theorem dX1_marriages_20 : decode cX1_marriages 20 = .ok (.if_icmp .gt 106, 3) := dk_163 0 106 (dk_at dksX1_marriages_0 20 rfl rfl)
theorem dX1_marriages_23 : decode cX1_marriages 23 = .ok (.iload_n 2, 1) := dk_28 (dk_at dksX1_marriages_0 23 rfl rfl)
theorem dX1_marriages_24 : decode cX1_marriages 24 = .ok (.invokestatic 306, 3) := dk_184 1 50 (dk_at dksX1_marriages_1 0 rfl rfl)
theorem dX1_marriages_27 : decode cX1_marriages 27 = .ok (.istore_n 3, 1) := dk_62 (dk_at dksX1_marriages_1 3 rfl rfl)
theorem dX1_marriages_28 : decode cX1_marriages 28 = .ok (.iload_n 2, 1) := dk_28 (dk_at dksX1_marriages_1 4 rfl rfl)
theorem dX1_marriages_29 : decode cX1_marriages 29 = .ok (.iload_n 2, 1) := dk_28 (dk_at dksX1_marriages_1 5 rfl rfl)
theorem dX1_marriages_30 : decode cX1_marriages 30 = .ok (.iconst 1, 1) := dk_4 (dk_at dksX1_marriages_1 6 rfl rfl)
theorem dX1_marriages_31 : decode cX1_marriages 31 = .ok (.isub, 1) := dk_100 (dk_at dksX1_marriages_1 7 rfl rfl)
theorem dX1_marriages_32 : decode cX1_marriages 32 = .ok (.iand, 1) := dk_126 (dk_at dksX1_marriages_1 8 rfl rfl)
theorem dX1_marriages_33 : decode cX1_marriages 33 = .ok (.istore 4, 2) := dk_54 4 (dk_at dksX1_marriages_1 9 rfl rfl)
theorem dX1_marriages_35 : decode cX1_marriages 35 = .ok (.aload_n 0, 1) := dk_42 (dk_at dksX1_marriages_1 11 rfl rfl)
theorem dX1_marriages_36 : decode cX1_marriages 36 = .ok (.getfield 56, 3) := dk_180 0 56 (dk_at dksX1_marriages_1 12 rfl rfl)
theorem dX1_marriages_39 : decode cX1_marriages 39 = .ok (.iload_n 2, 1) := dk_28 (dk_at dksX1_marriages_1 15 rfl rfl)
theorem dX1_marriages_40 : decode cX1_marriages 40 = .ok (.aload_n 0, 1) := dk_42 (dk_at dksX1_marriages_1 16 rfl rfl)
theorem dX1_marriages_41 : decode cX1_marriages 41 = .ok (.getfield 56, 3) := dk_180 0 56 (dk_at dksX1_marriages_1 17 rfl rfl)
theorem dX1_marriages_44 : decode cX1_marriages 44 = .ok (.iload 4, 2) := dk_21 4 (dk_at dksX1_marriages_1 20 rfl rfl)
theorem dX1_marriages_46 : decode cX1_marriages 46 = .ok (.iaload, 1) := dk_46 (dk_at dksX1_marriages_1 22 rfl rfl)
theorem dX1_marriages_47 : decode cX1_marriages 47 = .ok (.iastore, 1) := dk_79 (dk_at dksX1_marriages_1 23 rfl rfl)
theorem dX1_marriages_48 : decode cX1_marriages 48 = .ok (.iload_n 3, 1) := dk_29 (dk_at dksX1_marriages_2 0 rfl rfl)
theorem dX1_marriages_49 : decode cX1_marriages 49 = .ok (.iconst 1, 1) := dk_4 (dk_at dksX1_marriages_2 1 rfl rfl)
theorem dX1_marriages_50 : decode cX1_marriages 50 = .ok (.iadd, 1) := dk_96 (dk_at dksX1_marriages_2 2 rfl rfl)
theorem dX1_marriages_51 : decode cX1_marriages 51 = .ok (.istore 5, 2) := dk_54 5 (dk_at dksX1_marriages_2 3 rfl rfl)
theorem dX1_marriages_53 : decode cX1_marriages 53 = .ok (.iload 5, 2) := dk_21 5 (dk_at dksX1_marriages_2 5 rfl rfl)
theorem dX1_marriages_55 : decode cX1_marriages 55 = .ok (.aload_n 0, 1) := dk_42 (dk_at dksX1_marriages_2 7 rfl rfl)
theorem dX1_marriages_56 : decode cX1_marriages 56 = .ok (.invokevirtual 83, 3) := dk_182 0 83 (dk_at dksX1_marriages_2 8 rfl rfl)
theorem dX1_marriages_59 : decode cX1_marriages 59 = .ok (.if_icmp .ge 61, 3) := dk_162 0 61 (dk_at dksX1_marriages_2 11 rfl rfl)
theorem dX1_marriages_62 : decode cX1_marriages 62 = .ok (.iload 4, 2) := dk_21 4 (dk_at dksX1_marriages_2 14 rfl rfl)
theorem dX1_marriages_64 : decode cX1_marriages 64 = .ok (.iload 5, 2) := dk_21 5 (dk_at dksX1_marriages_2 16 rfl rfl)
theorem dX1_marriages_66 : decode cX1_marriages 66 = .ok (.ishr, 1) := dk_122 (dk_at dksX1_marriages_2 18 rfl rfl)
theorem dX1_marriages_67 : decode cX1_marriages 67 = .ok (.iconst 1, 1) := dk_4 (dk_at dksX1_marriages_2 19 rfl rfl)
theorem dX1_marriages_68 : decode cX1_marriages 68 = .ok (.iand, 1) := dk_126 (dk_at dksX1_marriages_2 20 rfl rfl)
theorem dX1_marriages_69 : decode cX1_marriages 69 = .ok (.iconst 1, 1) := dk_4 (dk_at dksX1_marriages_2 21 rfl rfl)
theorem dX1_marriages_70 : decode cX1_marriages 70 = .ok (.if_icmp .ne 44, 3) := dk_160 0 44 (dk_at dksX1_marriages_3 0 rfl rfl)
theorem dX1_marriages_73 : decode cX1_marriages 73 = .ok (.aload_n 0, 1) := dk_42 (dk_at dksX1_marriages_3 3 rfl rfl)
theorem dX1_marriages_74 : decode cX1_marriages 74 = .ok (.iload_n 3, 1) := dk_29 (dk_at dksX1_marriages_3 4 rfl rfl)
theorem dX1_marriages_75 : decode cX1_marriages 75 = .ok (.iload 5, 2) := dk_21 5 (dk_at dksX1_marriages_3 5 rfl rfl)
theorem dX1_marriages_77 : decode cX1_marriages 77 = .ok (.invokevirtual 303, 3) := dk_182 1 47 (dk_at dksX1_marriages_3 7 rfl rfl)
theorem dX1_marriages_80 : decode cX1_marriages 80 = .ok (.ifCond .eq 34, 3) := dk_153 0 34 (dk_at dksX1_marriages_3 10 rfl rfl)
theorem dX1_marriages_83 : decode cX1_marriages 83 = .ok (.aload_n 0, 1) := dk_42 (dk_at dksX1_marriages_3 13 rfl rfl)
theorem dX1_marriages_84 : decode cX1_marriages 84 = .ok (.getfield 56, 3) := dk_180 0 56 (dk_at dksX1_marriages_3 14 rfl rfl)
theorem dX1_marriages_87 : decode cX1_marriages 87 = .ok (.iload_n 2, 1) := dk_28 (dk_at dksX1_marriages_3 17 rfl rfl)
theorem dX1_marriages_88 : decode cX1_marriages 88 = .ok (.aload_n 0, 1) := dk_42 (dk_at dksX1_marriages_3 18 rfl rfl)
theorem dX1_marriages_89 : decode cX1_marriages 89 = .ok (.getfield 56, 3) := dk_180 0 56 (dk_at dksX1_marriages_3 19 rfl rfl)
theorem dX1_marriages_92 : decode cX1_marriages 92 = .ok (.iload_n 2, 1) := dk_28 (dk_at dksX1_marriages_3 22 rfl rfl)
theorem dX1_marriages_93 : decode cX1_marriages 93 = .ok (.iaload, 1) := dk_46 (dk_at dksX1_marriages_3 23 rfl rfl)
theorem dX1_marriages_94 : decode cX1_marriages 94 = .ok (.aload_n 0, 1) := dk_42 (dk_at dksX1_marriages_4 0 rfl rfl)
theorem dX1_marriages_95 : decode cX1_marriages 95 = .ok (.getfield 56, 3) := dk_180 0 56 (dk_at dksX1_marriages_4 1 rfl rfl)
theorem dX1_marriages_98 : decode cX1_marriages 98 = .ok (.iload 4, 2) := dk_21 4 (dk_at dksX1_marriages_4 4 rfl rfl)
theorem dX1_marriages_100 : decode cX1_marriages 100 = .ok (.iconst 1, 1) := dk_4 (dk_at dksX1_marriages_4 6 rfl rfl)
theorem dX1_marriages_101 : decode cX1_marriages 101 = .ok (.iload 5, 2) := dk_21 5 (dk_at dksX1_marriages_4 7 rfl rfl)
theorem dX1_marriages_103 : decode cX1_marriages 103 = .ok (.ishl, 1) := dk_120 (dk_at dksX1_marriages_4 9 rfl rfl)
theorem dX1_marriages_104 : decode cX1_marriages 104 = .ok (.iconst (-1), 1) := dk_2 (dk_at dksX1_marriages_4 10 rfl rfl)
theorem dX1_marriages_105 : decode cX1_marriages 105 = .ok (.ixor, 1) := dk_130 (dk_at dksX1_marriages_4 11 rfl rfl)
theorem dX1_marriages_106 : decode cX1_marriages 106 = .ok (.iand, 1) := dk_126 (dk_at dksX1_marriages_4 12 rfl rfl)
theorem dX1_marriages_107 : decode cX1_marriages 107 = .ok (.iaload, 1) := dk_46 (dk_at dksX1_marriages_4 13 rfl rfl)
theorem dX1_marriages_108 : decode cX1_marriages 108 = .ok (.iconst 1, 1) := dk_4 (dk_at dksX1_marriages_4 14 rfl rfl)
theorem dX1_marriages_109 : decode cX1_marriages 109 = .ok (.iadd, 1) := dk_96 (dk_at dksX1_marriages_4 15 rfl rfl)
theorem dX1_marriages_110 : decode cX1_marriages 110 = .ok (.invokestatic 309, 3) := dk_184 1 53 (dk_at dksX1_marriages_4 16 rfl rfl)
theorem dX1_marriages_113 : decode cX1_marriages 113 = .ok (.iastore, 1) := dk_79 (dk_at dksX1_marriages_4 19 rfl rfl)
theorem dX1_marriages_114 : decode cX1_marriages 114 = .ok (.iinc 5 1, 3) := dk_132 5 1 (dk_at dksX1_marriages_4 20 rfl rfl)
theorem dX1_marriages_117 : decode cX1_marriages 117 = .ok (.goto (-64), 3) := dk_167 255 192 (dk_at dksX1_marriages_5 0 rfl rfl)
theorem dX1_marriages_120 : decode cX1_marriages 120 = .ok (.iinc 2 1, 3) := dk_132 2 1 (dk_at dksX1_marriages_5 3 rfl rfl)
theorem dX1_marriages_123 : decode cX1_marriages 123 = .ok (.goto (-105), 3) := dk_167 255 151 (dk_at dksX1_marriages_5 6 rfl rfl)
theorem dX1_marriages_126 : decode cX1_marriages 126 = .ok (.aload_n 0, 1) := dk_42 (dk_at dksX1_marriages_5 9 rfl rfl)
theorem dX1_marriages_127 : decode cX1_marriages 127 = .ok (.getfield 56, 3) := dk_180 0 56 (dk_at dksX1_marriages_5 10 rfl rfl)
theorem dX1_marriages_130 : decode cX1_marriages 130 = .ok (.iload_n 1, 1) := dk_27 (dk_at dksX1_marriages_5 13 rfl rfl)
theorem dX1_marriages_131 : decode cX1_marriages 131 = .ok (.iaload, 1) := dk_46 (dk_at dksX1_marriages_5 14 rfl rfl)
theorem dX1_marriages_132 : decode cX1_marriages 132 = .ok (.ireturn, 1) := dk_172 (dk_at dksX1_marriages_5 15 rfl rfl)
abbrev cX1_canMarry : ByteArray := prog_1_method_42_code
def yX1_canMarry : MethodName := ⟨RX1, "canMarry", "(II)Z"⟩
def dkwX1_canMarry_2 : List UInt8 := [180, 0, 170, 161, 0, 7, 4, 167, 0, 4, 3, 172]
abbrev dktX1_canMarry_2 : List UInt8 := dkwX1_canMarry_2 ++ []
def dkwX1_canMarry_1 : List UInt8 := [161, 0, 32, 42, 28, 182, 1, 44, 42, 180, 0, 10, 180, 0, 73, 27, 182, 0, 89, 192, 0, 93]
abbrev dktX1_canMarry_1 : List UInt8 := dkwX1_canMarry_1 ++ dktX1_canMarry_2
def dkwX1_canMarry_0 : List UInt8 := [42, 27, 182, 1, 44, 42, 180, 0, 10, 180, 0, 73, 28, 182, 0, 89, 192, 0, 93, 180, 0, 170]
abbrev dktX1_canMarry_0 : List UInt8 := dkwX1_canMarry_0 ++ dktX1_canMarry_1
theorem dksX1_canMarry_0 : cX1_canMarry.data.toList.drop 0 = dktX1_canMarry_0 := by decide +kernel
theorem dksX1_canMarry_1 : cX1_canMarry.data.toList.drop 22 = dktX1_canMarry_1 := dk_seg dksX1_canMarry_0 22 rfl rfl
theorem dksX1_canMarry_2 : cX1_canMarry.data.toList.drop 44 = dktX1_canMarry_2 := dk_seg dksX1_canMarry_1 22 rfl rfl
theorem dX1_canMarry_0 : decode cX1_canMarry 0 = .ok (.aload_n 0, 1) := dk_42 (dk_at dksX1_canMarry_0 0 rfl rfl)
theorem dX1_canMarry_1 : decode cX1_canMarry 1 = .ok (.iload_n 1, 1) := dk_27 (dk_at dksX1_canMarry_0 1 rfl rfl)
theorem dX1_canMarry_2 : decode cX1_canMarry 2 = .ok (.invokevirtual 300, 3) := dk_182 1 44 (dk_at dksX1_canMarry_0 2 rfl rfl)
theorem dX1_canMarry_5 : decode cX1_canMarry 5 = .ok (.aload_n 0, 1) := dk_42 (dk_at dksX1_canMarry_0 5 rfl rfl)
theorem dX1_canMarry_6 : decode cX1_canMarry 6 = .ok (.getfield 10, 3) := dk_180 0 10 (dk_at dksX1_canMarry_0 6 rfl rfl)
theorem dX1_canMarry_9 : decode cX1_canMarry 9 = .ok (.getfield 73, 3) := dk_180 0 73 (dk_at dksX1_canMarry_0 9 rfl rfl)
theorem dX1_canMarry_12 : decode cX1_canMarry 12 = .ok (.iload_n 2, 1) := dk_28 (dk_at dksX1_canMarry_0 12 rfl rfl)
theorem dX1_canMarry_13 : decode cX1_canMarry 13 = .ok (.invokevirtual 89, 3) := dk_182 0 89 (dk_at dksX1_canMarry_0 13 rfl rfl)
theorem dX1_canMarry_16 : decode cX1_canMarry 16 = .ok (.checkcast 93, 3) := dk_192 0 93 (dk_at dksX1_canMarry_0 16 rfl rfl)
theorem dX1_canMarry_19 : decode cX1_canMarry 19 = .ok (.getfield 170, 3) := dk_180 0 170 (dk_at dksX1_canMarry_0 19 rfl rfl)
theorem dX1_canMarry_22 : decode cX1_canMarry 22 = .ok (.if_icmp .lt 32, 3) := dk_161 0 32 (dk_at dksX1_canMarry_1 0 rfl rfl)
theorem dX1_canMarry_25 : decode cX1_canMarry 25 = .ok (.aload_n 0, 1) := dk_42 (dk_at dksX1_canMarry_1 3 rfl rfl)
theorem dX1_canMarry_26 : decode cX1_canMarry 26 = .ok (.iload_n 2, 1) := dk_28 (dk_at dksX1_canMarry_1 4 rfl rfl)
theorem dX1_canMarry_27 : decode cX1_canMarry 27 = .ok (.invokevirtual 300, 3) := dk_182 1 44 (dk_at dksX1_canMarry_1 5 rfl rfl)
theorem dX1_canMarry_30 : decode cX1_canMarry 30 = .ok (.aload_n 0, 1) := dk_42 (dk_at dksX1_canMarry_1 8 rfl rfl)
theorem dX1_canMarry_31 : decode cX1_canMarry 31 = .ok (.getfield 10, 3) := dk_180 0 10 (dk_at dksX1_canMarry_1 9 rfl rfl)
theorem dX1_canMarry_34 : decode cX1_canMarry 34 = .ok (.getfield 73, 3) := dk_180 0 73 (dk_at dksX1_canMarry_1 12 rfl rfl)
theorem dX1_canMarry_37 : decode cX1_canMarry 37 = .ok (.iload_n 1, 1) := dk_27 (dk_at dksX1_canMarry_1 15 rfl rfl)
theorem dX1_canMarry_38 : decode cX1_canMarry 38 = .ok (.invokevirtual 89, 3) := dk_182 0 89 (dk_at dksX1_canMarry_1 16 rfl rfl)
theorem dX1_canMarry_41 : decode cX1_canMarry 41 = .ok (.checkcast 93, 3) := dk_192 0 93 (dk_at dksX1_canMarry_1 19 rfl rfl)
theorem dX1_canMarry_44 : decode cX1_canMarry 44 = .ok (.getfield 170, 3) := dk_180 0 170 (dk_at dksX1_canMarry_2 0 rfl rfl)
theorem dX1_canMarry_47 : decode cX1_canMarry 47 = .ok (.if_icmp .lt 7, 3) := dk_161 0 7 (dk_at dksX1_canMarry_2 3 rfl rfl)
theorem dX1_canMarry_50 : decode cX1_canMarry 50 = .ok (.iconst 1, 1) := dk_4 (dk_at dksX1_canMarry_2 6 rfl rfl)
theorem dX1_canMarry_51 : decode cX1_canMarry 51 = .ok (.goto 4, 3) := dk_167 0 4 (dk_at dksX1_canMarry_2 7 rfl rfl)
theorem dX1_canMarry_54 : decode cX1_canMarry 54 = .ok (.iconst 0, 1) := dk_3 (dk_at dksX1_canMarry_2 10 rfl rfl)
theorem dX1_canMarry_55 : decode cX1_canMarry 55 = .ok (.ireturn, 1) := dk_172 (dk_at dksX1_canMarry_2 11 rfl rfl)
abbrev cX1_carriesBelow : ByteArray := prog_1_method_41_code
def yX1_carriesBelow : MethodName := ⟨RX1, "carriesBelow", "(I)I"⟩
def dkwX1_carriesBelow_1 : List UInt8 := [182, 0, 253, 172]
abbrev dktX1_carriesBelow_1 : List UInt8 := dkwX1_carriesBelow_1 ++ []
def dkwX1_carriesBelow_0 : List UInt8 := [42, 180, 0, 10, 180, 0, 73, 27, 182, 0, 89, 192, 0, 93, 42, 180, 0, 30, 180, 0, 161, 3]
abbrev dktX1_carriesBelow_0 : List UInt8 := dkwX1_carriesBelow_0 ++ dktX1_carriesBelow_1
theorem dksX1_carriesBelow_0 : cX1_carriesBelow.data.toList.drop 0 = dktX1_carriesBelow_0 := by decide +kernel
theorem dksX1_carriesBelow_1 : cX1_carriesBelow.data.toList.drop 22 = dktX1_carriesBelow_1 := dk_seg dksX1_carriesBelow_0 22 rfl rfl
theorem dX1_carriesBelow_0 : decode cX1_carriesBelow 0 = .ok (.aload_n 0, 1) := dk_42 (dk_at dksX1_carriesBelow_0 0 rfl rfl)
theorem dX1_carriesBelow_1 : decode cX1_carriesBelow 1 = .ok (.getfield 10, 3) := dk_180 0 10 (dk_at dksX1_carriesBelow_0 1 rfl rfl)
theorem dX1_carriesBelow_4 : decode cX1_carriesBelow 4 = .ok (.getfield 73, 3) := dk_180 0 73 (dk_at dksX1_carriesBelow_0 4 rfl rfl)
theorem dX1_carriesBelow_7 : decode cX1_carriesBelow 7 = .ok (.iload_n 1, 1) := dk_27 (dk_at dksX1_carriesBelow_0 7 rfl rfl)
theorem dX1_carriesBelow_8 : decode cX1_carriesBelow 8 = .ok (.invokevirtual 89, 3) := dk_182 0 89 (dk_at dksX1_carriesBelow_0 8 rfl rfl)
theorem dX1_carriesBelow_11 : decode cX1_carriesBelow 11 = .ok (.checkcast 93, 3) := dk_192 0 93 (dk_at dksX1_carriesBelow_0 11 rfl rfl)
theorem dX1_carriesBelow_14 : decode cX1_carriesBelow 14 = .ok (.aload_n 0, 1) := dk_42 (dk_at dksX1_carriesBelow_0 14 rfl rfl)
theorem dX1_carriesBelow_15 : decode cX1_carriesBelow 15 = .ok (.getfield 30, 3) := dk_180 0 30 (dk_at dksX1_carriesBelow_0 15 rfl rfl)
theorem dX1_carriesBelow_18 : decode cX1_carriesBelow 18 = .ok (.getfield 161, 3) := dk_180 0 161 (dk_at dksX1_carriesBelow_0 18 rfl rfl)
theorem dX1_carriesBelow_21 : decode cX1_carriesBelow 21 = .ok (.iconst 0, 1) := dk_3 (dk_at dksX1_carriesBelow_0 21 rfl rfl)
theorem dX1_carriesBelow_22 : decode cX1_carriesBelow 22 = .ok (.invokevirtual 253, 3) := dk_182 0 253 (dk_at dksX1_carriesBelow_1 0 rfl rfl)
theorem dX1_carriesBelow_25 : decode cX1_carriesBelow 25 = .ok (.ireturn, 1) := dk_172 (dk_at dksX1_carriesBelow_1 3 rfl rfl)
abbrev cX1_fair : ByteArray := prog_1_method_46_code
def yX1_fair : MethodName := ⟨RX1, "fair", "()I"⟩
def dkwX1_fair_2 : List UInt8 := [182, 1, 29, 160, 0, 5, 27, 172, 132, 1, 1, 167, 255, 199, 2, 172]
abbrev dktX1_fair_2 : List UInt8 := dkwX1_fair_2 ++ []
def dkwX1_fair_1 : List UInt8 := [42, 180, 0, 10, 27, 182, 0, 233, 87, 42, 180, 0, 34, 42, 180, 0, 10, 182, 0, 158, 42, 180, 0, 34]
abbrev dktX1_fair_1 : List UInt8 := dkwX1_fair_1 ++ dktX1_fair_2
def dkwX1_fair_0 : List UInt8 := [3, 60, 27, 17, 3, 231, 163, 0, 56, 42, 180, 0, 34, 42, 180, 0, 30, 182, 0, 239, 42, 180, 0, 34]
abbrev dktX1_fair_0 : List UInt8 := dkwX1_fair_0 ++ dktX1_fair_1
theorem dksX1_fair_0 : cX1_fair.data.toList.drop 0 = dktX1_fair_0 := by decide +kernel
theorem dksX1_fair_1 : cX1_fair.data.toList.drop 24 = dktX1_fair_1 := dk_seg dksX1_fair_0 24 rfl rfl
theorem dksX1_fair_2 : cX1_fair.data.toList.drop 48 = dktX1_fair_2 := dk_seg dksX1_fair_1 24 rfl rfl
theorem dX1_fair_0 : decode cX1_fair 0 = .ok (.iconst 0, 1) := dk_3 (dk_at dksX1_fair_0 0 rfl rfl)
theorem dX1_fair_1 : decode cX1_fair 1 = .ok (.istore_n 1, 1) := dk_60 (dk_at dksX1_fair_0 1 rfl rfl)
theorem dX1_fair_2 : decode cX1_fair 2 = .ok (.iload_n 1, 1) := dk_27 (dk_at dksX1_fair_0 2 rfl rfl)
theorem dX1_fair_3 : decode cX1_fair 3 = .ok (.sipush 999, 3) := dk_17 3 231 (dk_at dksX1_fair_0 3 rfl rfl)
theorem dX1_fair_6 : decode cX1_fair 6 = .ok (.if_icmp .gt 56, 3) := dk_163 0 56 (dk_at dksX1_fair_0 6 rfl rfl)
theorem dX1_fair_9 : decode cX1_fair 9 = .ok (.aload_n 0, 1) := dk_42 (dk_at dksX1_fair_0 9 rfl rfl)
theorem dX1_fair_10 : decode cX1_fair 10 = .ok (.getfield 34, 3) := dk_180 0 34 (dk_at dksX1_fair_0 10 rfl rfl)
theorem dX1_fair_13 : decode cX1_fair 13 = .ok (.aload_n 0, 1) := dk_42 (dk_at dksX1_fair_0 13 rfl rfl)
theorem dX1_fair_14 : decode cX1_fair 14 = .ok (.getfield 30, 3) := dk_180 0 30 (dk_at dksX1_fair_0 14 rfl rfl)
theorem dX1_fair_17 : decode cX1_fair 17 = .ok (.invokevirtual 239, 3) := dk_182 0 239 (dk_at dksX1_fair_0 17 rfl rfl)
theorem dX1_fair_20 : decode cX1_fair 20 = .ok (.aload_n 0, 1) := dk_42 (dk_at dksX1_fair_0 20 rfl rfl)
theorem dX1_fair_21 : decode cX1_fair 21 = .ok (.getfield 34, 3) := dk_180 0 34 (dk_at dksX1_fair_0 21 rfl rfl)
theorem dX1_fair_24 : decode cX1_fair 24 = .ok (.aload_n 0, 1) := dk_42 (dk_at dksX1_fair_1 0 rfl rfl)
theorem dX1_fair_25 : decode cX1_fair 25 = .ok (.getfield 10, 3) := dk_180 0 10 (dk_at dksX1_fair_1 1 rfl rfl)
theorem dX1_fair_28 : decode cX1_fair 28 = .ok (.iload_n 1, 1) := dk_27 (dk_at dksX1_fair_1 4 rfl rfl)
theorem dX1_fair_29 : decode cX1_fair 29 = .ok (.invokevirtual 233, 3) := dk_182 0 233 (dk_at dksX1_fair_1 5 rfl rfl)
theorem dX1_fair_32 : decode cX1_fair 32 = .ok (.pop, 1) := dk_87 (dk_at dksX1_fair_1 8 rfl rfl)
theorem dX1_fair_33 : decode cX1_fair 33 = .ok (.aload_n 0, 1) := dk_42 (dk_at dksX1_fair_1 9 rfl rfl)
theorem dX1_fair_34 : decode cX1_fair 34 = .ok (.getfield 34, 3) := dk_180 0 34 (dk_at dksX1_fair_1 10 rfl rfl)
theorem dX1_fair_37 : decode cX1_fair 37 = .ok (.aload_n 0, 1) := dk_42 (dk_at dksX1_fair_1 13 rfl rfl)
theorem dX1_fair_38 : decode cX1_fair 38 = .ok (.getfield 10, 3) := dk_180 0 10 (dk_at dksX1_fair_1 14 rfl rfl)
theorem dX1_fair_41 : decode cX1_fair 41 = .ok (.invokevirtual 158, 3) := dk_182 0 158 (dk_at dksX1_fair_1 17 rfl rfl)
theorem dX1_fair_44 : decode cX1_fair 44 = .ok (.aload_n 0, 1) := dk_42 (dk_at dksX1_fair_1 20 rfl rfl)
theorem dX1_fair_45 : decode cX1_fair 45 = .ok (.getfield 34, 3) := dk_180 0 34 (dk_at dksX1_fair_1 21 rfl rfl)
theorem dX1_fair_48 : decode cX1_fair 48 = .ok (.invokevirtual 285, 3) := dk_182 1 29 (dk_at dksX1_fair_2 0 rfl rfl)
theorem dX1_fair_51 : decode cX1_fair 51 = .ok (.if_icmp .ne 5, 3) := dk_160 0 5 (dk_at dksX1_fair_2 3 rfl rfl)
theorem dX1_fair_54 : decode cX1_fair 54 = .ok (.iload_n 1, 1) := dk_27 (dk_at dksX1_fair_2 6 rfl rfl)
theorem dX1_fair_55 : decode cX1_fair 55 = .ok (.ireturn, 1) := dk_172 (dk_at dksX1_fair_2 7 rfl rfl)
theorem dX1_fair_56 : decode cX1_fair 56 = .ok (.iinc 1 1, 3) := dk_132 1 1 (dk_at dksX1_fair_2 8 rfl rfl)
theorem dX1_fair_59 : decode cX1_fair 59 = .ok (.goto (-57), 3) := dk_167 255 199 (dk_at dksX1_fair_2 11 rfl rfl)
theorem dX1_fair_62 : decode cX1_fair 62 = .ok (.iconst (-1), 1) := dk_2 (dk_at dksX1_fair_2 14 rfl rfl)
theorem dX1_fair_63 : decode cX1_fair 63 = .ok (.ireturn, 1) := dk_172 (dk_at dksX1_fair_2 15 rfl rfl)
abbrev cX1_oneWedge : ByteArray := prog_1_method_49_code
def yX1_oneWedge : MethodName := ⟨RX1, "oneWedge", "()I"⟩
def dkwX1_oneWedge_5 : List UInt8 := [16, 50, 96, 172, 132, 1, 1, 167, 255, 152, 2, 172]
abbrev dktX1_oneWedge_5 : List UInt8 := dkwX1_oneWedge_5 ++ []
def dkwX1_oneWedge_4 : List UInt8 := [180, 0, 10, 182, 0, 147, 153, 0, 21, 16, 100, 28, 104, 42, 180, 0, 34, 180, 0, 186, 28, 46, 96]
abbrev dktX1_oneWedge_4 : List UInt8 := dkwX1_oneWedge_4 ++ dktX1_oneWedge_5
def dkwX1_oneWedge_3 : List UInt8 := [180, 0, 186, 28, 46, 42, 180, 0, 30, 180, 0, 186, 28, 46, 159, 0, 35, 42, 180, 0, 34, 42]
abbrev dktX1_oneWedge_3 : List UInt8 := dkwX1_oneWedge_3 ++ dktX1_oneWedge_4
def dkwX1_oneWedge_2 : List UInt8 := [182, 0, 239, 42, 180, 0, 34, 180, 0, 186, 28, 27, 16, 19, 112, 16, 9, 100, 79, 42, 180, 0, 34]
abbrev dktX1_oneWedge_2 : List UInt8 := dkwX1_oneWedge_2 ++ dktX1_oneWedge_3
def dkwX1_oneWedge_1 : List UInt8 := [162, 0, 102, 42, 180, 0, 30, 180, 0, 195, 27, 16, 19, 108, 46, 61, 42, 180, 0, 34, 42, 180, 0, 30]
abbrev dktX1_oneWedge_1 : List UInt8 := dkwX1_oneWedge_1 ++ dktX1_oneWedge_2
def dkwX1_oneWedge_0 : List UInt8 := [42, 180, 0, 30, 42, 180, 0, 10, 182, 0, 147, 153, 0, 5, 2, 172, 3, 60, 27, 42, 182, 1, 59]
abbrev dktX1_oneWedge_0 : List UInt8 := dkwX1_oneWedge_0 ++ dktX1_oneWedge_1
theorem dksX1_oneWedge_0 : cX1_oneWedge.data.toList.drop 0 = dktX1_oneWedge_0 := by decide +kernel
theorem dksX1_oneWedge_1 : cX1_oneWedge.data.toList.drop 23 = dktX1_oneWedge_1 := dk_seg dksX1_oneWedge_0 23 rfl rfl
theorem dksX1_oneWedge_2 : cX1_oneWedge.data.toList.drop 47 = dktX1_oneWedge_2 := dk_seg dksX1_oneWedge_1 24 rfl rfl
theorem dksX1_oneWedge_3 : cX1_oneWedge.data.toList.drop 70 = dktX1_oneWedge_3 := dk_seg dksX1_oneWedge_2 23 rfl rfl
theorem dksX1_oneWedge_4 : cX1_oneWedge.data.toList.drop 92 = dktX1_oneWedge_4 := dk_seg dksX1_oneWedge_3 22 rfl rfl
theorem dksX1_oneWedge_5 : cX1_oneWedge.data.toList.drop 115 = dktX1_oneWedge_5 := dk_seg dksX1_oneWedge_4 23 rfl rfl
theorem dX1_oneWedge_0 : decode cX1_oneWedge 0 = .ok (.aload_n 0, 1) := dk_42 (dk_at dksX1_oneWedge_0 0 rfl rfl)
theorem dX1_oneWedge_1 : decode cX1_oneWedge 1 = .ok (.getfield 30, 3) := dk_180 0 30 (dk_at dksX1_oneWedge_0 1 rfl rfl)
theorem dX1_oneWedge_4 : decode cX1_oneWedge 4 = .ok (.aload_n 0, 1) := dk_42 (dk_at dksX1_oneWedge_0 4 rfl rfl)
theorem dX1_oneWedge_5 : decode cX1_oneWedge 5 = .ok (.getfield 10, 3) := dk_180 0 10 (dk_at dksX1_oneWedge_0 5 rfl rfl)
theorem dX1_oneWedge_8 : decode cX1_oneWedge 8 = .ok (.invokevirtual 147, 3) := dk_182 0 147 (dk_at dksX1_oneWedge_0 8 rfl rfl)
theorem dX1_oneWedge_11 : decode cX1_oneWedge 11 = .ok (.ifCond .eq 5, 3) := dk_153 0 5 (dk_at dksX1_oneWedge_0 11 rfl rfl)
theorem dX1_oneWedge_14 : decode cX1_oneWedge 14 = .ok (.iconst (-1), 1) := dk_2 (dk_at dksX1_oneWedge_0 14 rfl rfl)
theorem dX1_oneWedge_15 : decode cX1_oneWedge 15 = .ok (.ireturn, 1) := dk_172 (dk_at dksX1_oneWedge_0 15 rfl rfl)
theorem dX1_oneWedge_16 : decode cX1_oneWedge 16 = .ok (.iconst 0, 1) := dk_3 (dk_at dksX1_oneWedge_0 16 rfl rfl)
theorem dX1_oneWedge_17 : decode cX1_oneWedge 17 = .ok (.istore_n 1, 1) := dk_60 (dk_at dksX1_oneWedge_0 17 rfl rfl)
theorem dX1_oneWedge_18 : decode cX1_oneWedge 18 = .ok (.iload_n 1, 1) := dk_27 (dk_at dksX1_oneWedge_0 18 rfl rfl)
theorem dX1_oneWedge_19 : decode cX1_oneWedge 19 = .ok (.aload_n 0, 1) := dk_42 (dk_at dksX1_oneWedge_0 19 rfl rfl)
theorem dX1_oneWedge_20 : decode cX1_oneWedge 20 = .ok (.invokevirtual 315, 3) := dk_182 1 59 (dk_at dksX1_oneWedge_0 20 rfl rfl)
theorem dX1_oneWedge_23 : decode cX1_oneWedge 23 = .ok (.if_icmp .ge 102, 3) := dk_162 0 102 (dk_at dksX1_oneWedge_1 0 rfl rfl)
theorem dX1_oneWedge_26 : decode cX1_oneWedge 26 = .ok (.aload_n 0, 1) := dk_42 (dk_at dksX1_oneWedge_1 3 rfl rfl)
theorem dX1_oneWedge_27 : decode cX1_oneWedge 27 = .ok (.getfield 30, 3) := dk_180 0 30 (dk_at dksX1_oneWedge_1 4 rfl rfl)
theorem dX1_oneWedge_30 : decode cX1_oneWedge 30 = .ok (.getfield 195, 3) := dk_180 0 195 (dk_at dksX1_oneWedge_1 7 rfl rfl)
theorem dX1_oneWedge_33 : decode cX1_oneWedge 33 = .ok (.iload_n 1, 1) := dk_27 (dk_at dksX1_oneWedge_1 10 rfl rfl)
theorem dX1_oneWedge_34 : decode cX1_oneWedge 34 = .ok (.bipush 19, 2) := dk_16 19 (dk_at dksX1_oneWedge_1 11 rfl rfl)
theorem dX1_oneWedge_36 : decode cX1_oneWedge 36 = .ok (.idiv, 1) := dk_108 (dk_at dksX1_oneWedge_1 13 rfl rfl)
theorem dX1_oneWedge_37 : decode cX1_oneWedge 37 = .ok (.iaload, 1) := dk_46 (dk_at dksX1_oneWedge_1 14 rfl rfl)
theorem dX1_oneWedge_38 : decode cX1_oneWedge 38 = .ok (.istore_n 2, 1) := dk_61 (dk_at dksX1_oneWedge_1 15 rfl rfl)
theorem dX1_oneWedge_39 : decode cX1_oneWedge 39 = .ok (.aload_n 0, 1) := dk_42 (dk_at dksX1_oneWedge_1 16 rfl rfl)
theorem dX1_oneWedge_40 : decode cX1_oneWedge 40 = .ok (.getfield 34, 3) := dk_180 0 34 (dk_at dksX1_oneWedge_1 17 rfl rfl)
theorem dX1_oneWedge_43 : decode cX1_oneWedge 43 = .ok (.aload_n 0, 1) := dk_42 (dk_at dksX1_oneWedge_1 20 rfl rfl)
theorem dX1_oneWedge_44 : decode cX1_oneWedge 44 = .ok (.getfield 30, 3) := dk_180 0 30 (dk_at dksX1_oneWedge_1 21 rfl rfl)
theorem dX1_oneWedge_47 : decode cX1_oneWedge 47 = .ok (.invokevirtual 239, 3) := dk_182 0 239 (dk_at dksX1_oneWedge_2 0 rfl rfl)
theorem dX1_oneWedge_50 : decode cX1_oneWedge 50 = .ok (.aload_n 0, 1) := dk_42 (dk_at dksX1_oneWedge_2 3 rfl rfl)
theorem dX1_oneWedge_51 : decode cX1_oneWedge 51 = .ok (.getfield 34, 3) := dk_180 0 34 (dk_at dksX1_oneWedge_2 4 rfl rfl)
theorem dX1_oneWedge_54 : decode cX1_oneWedge 54 = .ok (.getfield 186, 3) := dk_180 0 186 (dk_at dksX1_oneWedge_2 7 rfl rfl)
theorem dX1_oneWedge_57 : decode cX1_oneWedge 57 = .ok (.iload_n 2, 1) := dk_28 (dk_at dksX1_oneWedge_2 10 rfl rfl)
theorem dX1_oneWedge_58 : decode cX1_oneWedge 58 = .ok (.iload_n 1, 1) := dk_27 (dk_at dksX1_oneWedge_2 11 rfl rfl)
theorem dX1_oneWedge_59 : decode cX1_oneWedge 59 = .ok (.bipush 19, 2) := dk_16 19 (dk_at dksX1_oneWedge_2 12 rfl rfl)
theorem dX1_oneWedge_61 : decode cX1_oneWedge 61 = .ok (.irem, 1) := dk_112 (dk_at dksX1_oneWedge_2 14 rfl rfl)
theorem dX1_oneWedge_62 : decode cX1_oneWedge 62 = .ok (.bipush 9, 2) := dk_16 9 (dk_at dksX1_oneWedge_2 15 rfl rfl)
theorem dX1_oneWedge_64 : decode cX1_oneWedge 64 = .ok (.isub, 1) := dk_100 (dk_at dksX1_oneWedge_2 17 rfl rfl)
theorem dX1_oneWedge_65 : decode cX1_oneWedge 65 = .ok (.iastore, 1) := dk_79 (dk_at dksX1_oneWedge_2 18 rfl rfl)
theorem dX1_oneWedge_66 : decode cX1_oneWedge 66 = .ok (.aload_n 0, 1) := dk_42 (dk_at dksX1_oneWedge_2 19 rfl rfl)
theorem dX1_oneWedge_67 : decode cX1_oneWedge 67 = .ok (.getfield 34, 3) := dk_180 0 34 (dk_at dksX1_oneWedge_2 20 rfl rfl)
theorem dX1_oneWedge_70 : decode cX1_oneWedge 70 = .ok (.getfield 186, 3) := dk_180 0 186 (dk_at dksX1_oneWedge_3 0 rfl rfl)
theorem dX1_oneWedge_73 : decode cX1_oneWedge 73 = .ok (.iload_n 2, 1) := dk_28 (dk_at dksX1_oneWedge_3 3 rfl rfl)
theorem dX1_oneWedge_74 : decode cX1_oneWedge 74 = .ok (.iaload, 1) := dk_46 (dk_at dksX1_oneWedge_3 4 rfl rfl)
theorem dX1_oneWedge_75 : decode cX1_oneWedge 75 = .ok (.aload_n 0, 1) := dk_42 (dk_at dksX1_oneWedge_3 5 rfl rfl)
theorem dX1_oneWedge_76 : decode cX1_oneWedge 76 = .ok (.getfield 30, 3) := dk_180 0 30 (dk_at dksX1_oneWedge_3 6 rfl rfl)
theorem dX1_oneWedge_79 : decode cX1_oneWedge 79 = .ok (.getfield 186, 3) := dk_180 0 186 (dk_at dksX1_oneWedge_3 9 rfl rfl)
theorem dX1_oneWedge_82 : decode cX1_oneWedge 82 = .ok (.iload_n 2, 1) := dk_28 (dk_at dksX1_oneWedge_3 12 rfl rfl)
theorem dX1_oneWedge_83 : decode cX1_oneWedge 83 = .ok (.iaload, 1) := dk_46 (dk_at dksX1_oneWedge_3 13 rfl rfl)
theorem dX1_oneWedge_84 : decode cX1_oneWedge 84 = .ok (.if_icmp .eq 35, 3) := dk_159 0 35 (dk_at dksX1_oneWedge_3 14 rfl rfl)
theorem dX1_oneWedge_87 : decode cX1_oneWedge 87 = .ok (.aload_n 0, 1) := dk_42 (dk_at dksX1_oneWedge_3 17 rfl rfl)
theorem dX1_oneWedge_88 : decode cX1_oneWedge 88 = .ok (.getfield 34, 3) := dk_180 0 34 (dk_at dksX1_oneWedge_3 18 rfl rfl)
theorem dX1_oneWedge_91 : decode cX1_oneWedge 91 = .ok (.aload_n 0, 1) := dk_42 (dk_at dksX1_oneWedge_3 21 rfl rfl)
theorem dX1_oneWedge_92 : decode cX1_oneWedge 92 = .ok (.getfield 10, 3) := dk_180 0 10 (dk_at dksX1_oneWedge_4 0 rfl rfl)
theorem dX1_oneWedge_95 : decode cX1_oneWedge 95 = .ok (.invokevirtual 147, 3) := dk_182 0 147 (dk_at dksX1_oneWedge_4 3 rfl rfl)
theorem dX1_oneWedge_98 : decode cX1_oneWedge 98 = .ok (.ifCond .eq 21, 3) := dk_153 0 21 (dk_at dksX1_oneWedge_4 6 rfl rfl)
theorem dX1_oneWedge_101 : decode cX1_oneWedge 101 = .ok (.bipush 100, 2) := dk_16 100 (dk_at dksX1_oneWedge_4 9 rfl rfl)
theorem dX1_oneWedge_103 : decode cX1_oneWedge 103 = .ok (.iload_n 2, 1) := dk_28 (dk_at dksX1_oneWedge_4 11 rfl rfl)
theorem dX1_oneWedge_104 : decode cX1_oneWedge 104 = .ok (.imul, 1) := dk_104 (dk_at dksX1_oneWedge_4 12 rfl rfl)
theorem dX1_oneWedge_105 : decode cX1_oneWedge 105 = .ok (.aload_n 0, 1) := dk_42 (dk_at dksX1_oneWedge_4 13 rfl rfl)
theorem dX1_oneWedge_106 : decode cX1_oneWedge 106 = .ok (.getfield 34, 3) := dk_180 0 34 (dk_at dksX1_oneWedge_4 14 rfl rfl)
theorem dX1_oneWedge_109 : decode cX1_oneWedge 109 = .ok (.getfield 186, 3) := dk_180 0 186 (dk_at dksX1_oneWedge_4 17 rfl rfl)
theorem dX1_oneWedge_112 : decode cX1_oneWedge 112 = .ok (.iload_n 2, 1) := dk_28 (dk_at dksX1_oneWedge_4 20 rfl rfl)
theorem dX1_oneWedge_113 : decode cX1_oneWedge 113 = .ok (.iaload, 1) := dk_46 (dk_at dksX1_oneWedge_4 21 rfl rfl)
theorem dX1_oneWedge_114 : decode cX1_oneWedge 114 = .ok (.iadd, 1) := dk_96 (dk_at dksX1_oneWedge_4 22 rfl rfl)
theorem dX1_oneWedge_115 : decode cX1_oneWedge 115 = .ok (.bipush 50, 2) := dk_16 50 (dk_at dksX1_oneWedge_5 0 rfl rfl)
theorem dX1_oneWedge_117 : decode cX1_oneWedge 117 = .ok (.iadd, 1) := dk_96 (dk_at dksX1_oneWedge_5 2 rfl rfl)
theorem dX1_oneWedge_118 : decode cX1_oneWedge 118 = .ok (.ireturn, 1) := dk_172 (dk_at dksX1_oneWedge_5 3 rfl rfl)
theorem dX1_oneWedge_119 : decode cX1_oneWedge 119 = .ok (.iinc 1 1, 3) := dk_132 1 1 (dk_at dksX1_oneWedge_5 4 rfl rfl)
theorem dX1_oneWedge_122 : decode cX1_oneWedge 122 = .ok (.goto (-104), 3) := dk_167 255 152 (dk_at dksX1_oneWedge_5 7 rfl rfl)
theorem dX1_oneWedge_125 : decode cX1_oneWedge 125 = .ok (.iconst (-1), 1) := dk_2 (dk_at dksX1_oneWedge_5 10 rfl rfl)
theorem dX1_oneWedge_126 : decode cX1_oneWedge 126 = .ok (.ireturn, 1) := dk_172 (dk_at dksX1_oneWedge_5 11 rfl rfl)
abbrev cX1_guesses : ByteArray := prog_1_method_63_code
def yX1_guesses : MethodName := ⟨RX1, "guesses", "()I"⟩
def dkwX1_guesses_0 : List UInt8 := [42, 180, 0, 30, 180, 0, 95, 16, 19, 104, 172]
abbrev dktX1_guesses_0 : List UInt8 := dkwX1_guesses_0 ++ []
theorem dksX1_guesses_0 : cX1_guesses.data.toList.drop 0 = dktX1_guesses_0 := by decide +kernel
theorem dX1_guesses_0 : decode cX1_guesses 0 = .ok (.aload_n 0, 1) := dk_42 (dk_at dksX1_guesses_0 0 rfl rfl)
theorem dX1_guesses_1 : decode cX1_guesses 1 = .ok (.getfield 30, 3) := dk_180 0 30 (dk_at dksX1_guesses_0 1 rfl rfl)
theorem dX1_guesses_4 : decode cX1_guesses 4 = .ok (.getfield 95, 3) := dk_180 0 95 (dk_at dksX1_guesses_0 4 rfl rfl)
theorem dX1_guesses_7 : decode cX1_guesses 7 = .ok (.bipush 19, 2) := dk_16 19 (dk_at dksX1_guesses_0 7 rfl rfl)
theorem dX1_guesses_9 : decode cX1_guesses 9 = .ok (.imul, 1) := dk_104 (dk_at dksX1_guesses_0 9 rfl rfl)
theorem dX1_guesses_10 : decode cX1_guesses 10 = .ok (.ireturn, 1) := dk_172 (dk_at dksX1_guesses_0 10 rfl rfl)
abbrev cX1_swap : ByteArray := prog_1_method_53_code
def yX1_swap : MethodName := ⟨RX1, "swap", "()I"⟩
def dkwX1_swap_5 : List UInt8 := [60, 21, 5, 61, 132, 4, 1, 167, 255, 162, 132, 3, 1, 167, 255, 140, 27, 172]
abbrev dktX1_swap_5 : List UInt8 := dkwX1_swap_5 ++ []
def dkwX1_swap_4 : List UInt8 := [180, 0, 34, 182, 0, 243, 54, 5, 21, 5, 28, 163, 0, 6, 167, 0, 14, 16, 10, 29, 104, 21, 4, 96]
abbrev dktX1_swap_4 : List UInt8 := dkwX1_swap_4 ++ dktX1_swap_5
def dkwX1_swap_3 : List UInt8 := [79, 42, 180, 0, 34, 180, 0, 195, 21, 4, 42, 180, 0, 30, 180, 0, 195, 29, 46, 79, 42, 42]
abbrev dktX1_swap_3 : List UInt8 := dkwX1_swap_3 ++ dktX1_swap_4
def dkwX1_swap_2 : List UInt8 := [180, 0, 30, 182, 0, 239, 42, 180, 0, 34, 180, 0, 195, 29, 42, 180, 0, 30, 180, 0, 195, 21, 4, 46]
abbrev dktX1_swap_2 : List UInt8 := dkwX1_swap_2 ++ dktX1_swap_3
def dkwX1_swap_1 : List UInt8 := [29, 4, 96, 54, 4, 21, 4, 42, 180, 0, 30, 180, 0, 95, 162, 0, 88, 42, 180, 0, 34, 42]
abbrev dktX1_swap_1 : List UInt8 := dkwX1_swap_1 ++ dktX1_swap_2
def dkwX1_swap_0 : List UInt8 := [2, 60, 42, 42, 180, 0, 30, 182, 0, 243, 61, 3, 62, 29, 42, 180, 0, 30, 180, 0, 95, 162, 0, 111]
abbrev dktX1_swap_0 : List UInt8 := dkwX1_swap_0 ++ dktX1_swap_1
theorem dksX1_swap_0 : cX1_swap.data.toList.drop 0 = dktX1_swap_0 := by decide +kernel
theorem dksX1_swap_1 : cX1_swap.data.toList.drop 24 = dktX1_swap_1 := dk_seg dksX1_swap_0 24 rfl rfl
theorem dksX1_swap_2 : cX1_swap.data.toList.drop 46 = dktX1_swap_2 := dk_seg dksX1_swap_1 22 rfl rfl
theorem dksX1_swap_3 : cX1_swap.data.toList.drop 70 = dktX1_swap_3 := dk_seg dksX1_swap_2 24 rfl rfl
theorem dksX1_swap_4 : cX1_swap.data.toList.drop 92 = dktX1_swap_4 := dk_seg dksX1_swap_3 22 rfl rfl
theorem dksX1_swap_5 : cX1_swap.data.toList.drop 116 = dktX1_swap_5 := dk_seg dksX1_swap_4 24 rfl rfl
theorem dX1_swap_0 : decode cX1_swap 0 = .ok (.iconst (-1), 1) := dk_2 (dk_at dksX1_swap_0 0 rfl rfl)
theorem dX1_swap_1 : decode cX1_swap 1 = .ok (.istore_n 1, 1) := dk_60 (dk_at dksX1_swap_0 1 rfl rfl)
theorem dX1_swap_2 : decode cX1_swap 2 = .ok (.aload_n 0, 1) := dk_42 (dk_at dksX1_swap_0 2 rfl rfl)
theorem dX1_swap_3 : decode cX1_swap 3 = .ok (.aload_n 0, 1) := dk_42 (dk_at dksX1_swap_0 3 rfl rfl)
theorem dX1_swap_4 : decode cX1_swap 4 = .ok (.getfield 30, 3) := dk_180 0 30 (dk_at dksX1_swap_0 4 rfl rfl)
theorem dX1_swap_7 : decode cX1_swap 7 = .ok (.invokevirtual 243, 3) := dk_182 0 243 (dk_at dksX1_swap_0 7 rfl rfl)
theorem dX1_swap_10 : decode cX1_swap 10 = .ok (.istore_n 2, 1) := dk_61 (dk_at dksX1_swap_0 10 rfl rfl)
theorem dX1_swap_11 : decode cX1_swap 11 = .ok (.iconst 0, 1) := dk_3 (dk_at dksX1_swap_0 11 rfl rfl)
theorem dX1_swap_12 : decode cX1_swap 12 = .ok (.istore_n 3, 1) := dk_62 (dk_at dksX1_swap_0 12 rfl rfl)
theorem dX1_swap_13 : decode cX1_swap 13 = .ok (.iload_n 3, 1) := dk_29 (dk_at dksX1_swap_0 13 rfl rfl)
theorem dX1_swap_14 : decode cX1_swap 14 = .ok (.aload_n 0, 1) := dk_42 (dk_at dksX1_swap_0 14 rfl rfl)
theorem dX1_swap_15 : decode cX1_swap 15 = .ok (.getfield 30, 3) := dk_180 0 30 (dk_at dksX1_swap_0 15 rfl rfl)
theorem dX1_swap_18 : decode cX1_swap 18 = .ok (.getfield 95, 3) := dk_180 0 95 (dk_at dksX1_swap_0 18 rfl rfl)
theorem dX1_swap_21 : decode cX1_swap 21 = .ok (.if_icmp .ge 111, 3) := dk_162 0 111 (dk_at dksX1_swap_0 21 rfl rfl)
theorem dX1_swap_24 : decode cX1_swap 24 = .ok (.iload_n 3, 1) := dk_29 (dk_at dksX1_swap_1 0 rfl rfl)
theorem dX1_swap_25 : decode cX1_swap 25 = .ok (.iconst 1, 1) := dk_4 (dk_at dksX1_swap_1 1 rfl rfl)
theorem dX1_swap_26 : decode cX1_swap 26 = .ok (.iadd, 1) := dk_96 (dk_at dksX1_swap_1 2 rfl rfl)
theorem dX1_swap_27 : decode cX1_swap 27 = .ok (.istore 4, 2) := dk_54 4 (dk_at dksX1_swap_1 3 rfl rfl)
theorem dX1_swap_29 : decode cX1_swap 29 = .ok (.iload 4, 2) := dk_21 4 (dk_at dksX1_swap_1 5 rfl rfl)
theorem dX1_swap_31 : decode cX1_swap 31 = .ok (.aload_n 0, 1) := dk_42 (dk_at dksX1_swap_1 7 rfl rfl)
theorem dX1_swap_32 : decode cX1_swap 32 = .ok (.getfield 30, 3) := dk_180 0 30 (dk_at dksX1_swap_1 8 rfl rfl)
theorem dX1_swap_35 : decode cX1_swap 35 = .ok (.getfield 95, 3) := dk_180 0 95 (dk_at dksX1_swap_1 11 rfl rfl)
theorem dX1_swap_38 : decode cX1_swap 38 = .ok (.if_icmp .ge 88, 3) := dk_162 0 88 (dk_at dksX1_swap_1 14 rfl rfl)
theorem dX1_swap_41 : decode cX1_swap 41 = .ok (.aload_n 0, 1) := dk_42 (dk_at dksX1_swap_1 17 rfl rfl)
theorem dX1_swap_42 : decode cX1_swap 42 = .ok (.getfield 34, 3) := dk_180 0 34 (dk_at dksX1_swap_1 18 rfl rfl)
theorem dX1_swap_45 : decode cX1_swap 45 = .ok (.aload_n 0, 1) := dk_42 (dk_at dksX1_swap_1 21 rfl rfl)
theorem dX1_swap_46 : decode cX1_swap 46 = .ok (.getfield 30, 3) := dk_180 0 30 (dk_at dksX1_swap_2 0 rfl rfl)
theorem dX1_swap_49 : decode cX1_swap 49 = .ok (.invokevirtual 239, 3) := dk_182 0 239 (dk_at dksX1_swap_2 3 rfl rfl)
theorem dX1_swap_52 : decode cX1_swap 52 = .ok (.aload_n 0, 1) := dk_42 (dk_at dksX1_swap_2 6 rfl rfl)
theorem dX1_swap_53 : decode cX1_swap 53 = .ok (.getfield 34, 3) := dk_180 0 34 (dk_at dksX1_swap_2 7 rfl rfl)
theorem dX1_swap_56 : decode cX1_swap 56 = .ok (.getfield 195, 3) := dk_180 0 195 (dk_at dksX1_swap_2 10 rfl rfl)
theorem dX1_swap_59 : decode cX1_swap 59 = .ok (.iload_n 3, 1) := dk_29 (dk_at dksX1_swap_2 13 rfl rfl)
theorem dX1_swap_60 : decode cX1_swap 60 = .ok (.aload_n 0, 1) := dk_42 (dk_at dksX1_swap_2 14 rfl rfl)
theorem dX1_swap_61 : decode cX1_swap 61 = .ok (.getfield 30, 3) := dk_180 0 30 (dk_at dksX1_swap_2 15 rfl rfl)
theorem dX1_swap_64 : decode cX1_swap 64 = .ok (.getfield 195, 3) := dk_180 0 195 (dk_at dksX1_swap_2 18 rfl rfl)
theorem dX1_swap_67 : decode cX1_swap 67 = .ok (.iload 4, 2) := dk_21 4 (dk_at dksX1_swap_2 21 rfl rfl)
theorem dX1_swap_69 : decode cX1_swap 69 = .ok (.iaload, 1) := dk_46 (dk_at dksX1_swap_2 23 rfl rfl)
theorem dX1_swap_70 : decode cX1_swap 70 = .ok (.iastore, 1) := dk_79 (dk_at dksX1_swap_3 0 rfl rfl)
theorem dX1_swap_71 : decode cX1_swap 71 = .ok (.aload_n 0, 1) := dk_42 (dk_at dksX1_swap_3 1 rfl rfl)
theorem dX1_swap_72 : decode cX1_swap 72 = .ok (.getfield 34, 3) := dk_180 0 34 (dk_at dksX1_swap_3 2 rfl rfl)
theorem dX1_swap_75 : decode cX1_swap 75 = .ok (.getfield 195, 3) := dk_180 0 195 (dk_at dksX1_swap_3 5 rfl rfl)
theorem dX1_swap_78 : decode cX1_swap 78 = .ok (.iload 4, 2) := dk_21 4 (dk_at dksX1_swap_3 8 rfl rfl)
theorem dX1_swap_80 : decode cX1_swap 80 = .ok (.aload_n 0, 1) := dk_42 (dk_at dksX1_swap_3 10 rfl rfl)
theorem dX1_swap_81 : decode cX1_swap 81 = .ok (.getfield 30, 3) := dk_180 0 30 (dk_at dksX1_swap_3 11 rfl rfl)
theorem dX1_swap_84 : decode cX1_swap 84 = .ok (.getfield 195, 3) := dk_180 0 195 (dk_at dksX1_swap_3 14 rfl rfl)
theorem dX1_swap_87 : decode cX1_swap 87 = .ok (.iload_n 3, 1) := dk_29 (dk_at dksX1_swap_3 17 rfl rfl)
theorem dX1_swap_88 : decode cX1_swap 88 = .ok (.iaload, 1) := dk_46 (dk_at dksX1_swap_3 18 rfl rfl)
theorem dX1_swap_89 : decode cX1_swap 89 = .ok (.iastore, 1) := dk_79 (dk_at dksX1_swap_3 19 rfl rfl)
theorem dX1_swap_90 : decode cX1_swap 90 = .ok (.aload_n 0, 1) := dk_42 (dk_at dksX1_swap_3 20 rfl rfl)
theorem dX1_swap_91 : decode cX1_swap 91 = .ok (.aload_n 0, 1) := dk_42 (dk_at dksX1_swap_3 21 rfl rfl)
theorem dX1_swap_92 : decode cX1_swap 92 = .ok (.getfield 34, 3) := dk_180 0 34 (dk_at dksX1_swap_4 0 rfl rfl)
theorem dX1_swap_95 : decode cX1_swap 95 = .ok (.invokevirtual 243, 3) := dk_182 0 243 (dk_at dksX1_swap_4 3 rfl rfl)
theorem dX1_swap_98 : decode cX1_swap 98 = .ok (.istore 5, 2) := dk_54 5 (dk_at dksX1_swap_4 6 rfl rfl)
theorem dX1_swap_100 : decode cX1_swap 100 = .ok (.iload 5, 2) := dk_21 5 (dk_at dksX1_swap_4 8 rfl rfl)
theorem dX1_swap_102 : decode cX1_swap 102 = .ok (.iload_n 2, 1) := dk_28 (dk_at dksX1_swap_4 10 rfl rfl)
theorem dX1_swap_103 : decode cX1_swap 103 = .ok (.if_icmp .gt 6, 3) := dk_163 0 6 (dk_at dksX1_swap_4 11 rfl rfl)
theorem dX1_swap_106 : decode cX1_swap 106 = .ok (.goto 14, 3) := dk_167 0 14 (dk_at dksX1_swap_4 14 rfl rfl)
theorem dX1_swap_109 : decode cX1_swap 109 = .ok (.bipush 10, 2) := dk_16 10 (dk_at dksX1_swap_4 17 rfl rfl)
theorem dX1_swap_111 : decode cX1_swap 111 = .ok (.iload_n 3, 1) := dk_29 (dk_at dksX1_swap_4 19 rfl rfl)
theorem dX1_swap_112 : decode cX1_swap 112 = .ok (.imul, 1) := dk_104 (dk_at dksX1_swap_4 20 rfl rfl)
theorem dX1_swap_113 : decode cX1_swap 113 = .ok (.iload 4, 2) := dk_21 4 (dk_at dksX1_swap_4 21 rfl rfl)
theorem dX1_swap_115 : decode cX1_swap 115 = .ok (.iadd, 1) := dk_96 (dk_at dksX1_swap_4 23 rfl rfl)
theorem dX1_swap_116 : decode cX1_swap 116 = .ok (.istore_n 1, 1) := dk_60 (dk_at dksX1_swap_5 0 rfl rfl)
theorem dX1_swap_117 : decode cX1_swap 117 = .ok (.iload 5, 2) := dk_21 5 (dk_at dksX1_swap_5 1 rfl rfl)
theorem dX1_swap_119 : decode cX1_swap 119 = .ok (.istore_n 2, 1) := dk_61 (dk_at dksX1_swap_5 3 rfl rfl)
theorem dX1_swap_120 : decode cX1_swap 120 = .ok (.iinc 4 1, 3) := dk_132 4 1 (dk_at dksX1_swap_5 4 rfl rfl)
theorem dX1_swap_123 : decode cX1_swap 123 = .ok (.goto (-94), 3) := dk_167 255 162 (dk_at dksX1_swap_5 7 rfl rfl)
theorem dX1_swap_126 : decode cX1_swap 126 = .ok (.iinc 3 1, 3) := dk_132 3 1 (dk_at dksX1_swap_5 10 rfl rfl)
theorem dX1_swap_129 : decode cX1_swap 129 = .ok (.goto (-116), 3) := dk_167 255 140 (dk_at dksX1_swap_5 13 rfl rfl)
theorem dX1_swap_132 : decode cX1_swap 132 = .ok (.iload_n 1, 1) := dk_27 (dk_at dksX1_swap_5 16 rfl rfl)
theorem dX1_swap_133 : decode cX1_swap 133 = .ok (.ireturn, 1) := dk_172 (dk_at dksX1_swap_5 17 rfl rfl)
abbrev cX1_crooked : ByteArray := prog_1_method_56_code
def yX1_crooked : MethodName := ⟨RX1, "crooked", "()I"⟩
def dkwX1_crooked_2 : List UInt8 := [184, 1, 3, 164, 0, 5, 28, 60, 132, 2, 1, 167, 255, 202, 27, 172]
abbrev dktX1_crooked_2 : List UInt8 := dkwX1_crooked_2 ++ []
def dkwX1_crooked_1 : List UInt8 := [42, 180, 0, 10, 28, 182, 0, 205, 184, 1, 3, 42, 180, 0, 30, 42, 180, 0, 10, 27, 182, 0, 205]
abbrev dktX1_crooked_1 : List UInt8 := dkwX1_crooked_1 ++ dktX1_crooked_2
def dkwX1_crooked_0 : List UInt8 := [2, 60, 3, 61, 28, 42, 180, 0, 30, 180, 0, 95, 162, 0, 49, 27, 2, 159, 0, 36, 42, 180, 0, 30]
abbrev dktX1_crooked_0 : List UInt8 := dkwX1_crooked_0 ++ dktX1_crooked_1
theorem dksX1_crooked_0 : cX1_crooked.data.toList.drop 0 = dktX1_crooked_0 := by decide +kernel
theorem dksX1_crooked_1 : cX1_crooked.data.toList.drop 24 = dktX1_crooked_1 := dk_seg dksX1_crooked_0 24 rfl rfl
theorem dksX1_crooked_2 : cX1_crooked.data.toList.drop 47 = dktX1_crooked_2 := dk_seg dksX1_crooked_1 23 rfl rfl
theorem dX1_crooked_0 : decode cX1_crooked 0 = .ok (.iconst (-1), 1) := dk_2 (dk_at dksX1_crooked_0 0 rfl rfl)
theorem dX1_crooked_1 : decode cX1_crooked 1 = .ok (.istore_n 1, 1) := dk_60 (dk_at dksX1_crooked_0 1 rfl rfl)
theorem dX1_crooked_2 : decode cX1_crooked 2 = .ok (.iconst 0, 1) := dk_3 (dk_at dksX1_crooked_0 2 rfl rfl)
theorem dX1_crooked_3 : decode cX1_crooked 3 = .ok (.istore_n 2, 1) := dk_61 (dk_at dksX1_crooked_0 3 rfl rfl)
theorem dX1_crooked_4 : decode cX1_crooked 4 = .ok (.iload_n 2, 1) := dk_28 (dk_at dksX1_crooked_0 4 rfl rfl)
theorem dX1_crooked_5 : decode cX1_crooked 5 = .ok (.aload_n 0, 1) := dk_42 (dk_at dksX1_crooked_0 5 rfl rfl)
theorem dX1_crooked_6 : decode cX1_crooked 6 = .ok (.getfield 30, 3) := dk_180 0 30 (dk_at dksX1_crooked_0 6 rfl rfl)
theorem dX1_crooked_9 : decode cX1_crooked 9 = .ok (.getfield 95, 3) := dk_180 0 95 (dk_at dksX1_crooked_0 9 rfl rfl)
theorem dX1_crooked_12 : decode cX1_crooked 12 = .ok (.if_icmp .ge 49, 3) := dk_162 0 49 (dk_at dksX1_crooked_0 12 rfl rfl)
theorem dX1_crooked_15 : decode cX1_crooked 15 = .ok (.iload_n 1, 1) := dk_27 (dk_at dksX1_crooked_0 15 rfl rfl)
theorem dX1_crooked_16 : decode cX1_crooked 16 = .ok (.iconst (-1), 1) := dk_2 (dk_at dksX1_crooked_0 16 rfl rfl)
theorem dX1_crooked_17 : decode cX1_crooked 17 = .ok (.if_icmp .eq 36, 3) := dk_159 0 36 (dk_at dksX1_crooked_0 17 rfl rfl)
theorem dX1_crooked_20 : decode cX1_crooked 20 = .ok (.aload_n 0, 1) := dk_42 (dk_at dksX1_crooked_0 20 rfl rfl)
theorem dX1_crooked_21 : decode cX1_crooked 21 = .ok (.getfield 30, 3) := dk_180 0 30 (dk_at dksX1_crooked_0 21 rfl rfl)
theorem dX1_crooked_24 : decode cX1_crooked 24 = .ok (.aload_n 0, 1) := dk_42 (dk_at dksX1_crooked_1 0 rfl rfl)
theorem dX1_crooked_25 : decode cX1_crooked 25 = .ok (.getfield 10, 3) := dk_180 0 10 (dk_at dksX1_crooked_1 1 rfl rfl)
theorem dX1_crooked_28 : decode cX1_crooked 28 = .ok (.iload_n 2, 1) := dk_28 (dk_at dksX1_crooked_1 4 rfl rfl)
theorem dX1_crooked_29 : decode cX1_crooked 29 = .ok (.invokevirtual 205, 3) := dk_182 0 205 (dk_at dksX1_crooked_1 5 rfl rfl)
theorem dX1_crooked_32 : decode cX1_crooked 32 = .ok (.invokestatic 259, 3) := dk_184 1 3 (dk_at dksX1_crooked_1 8 rfl rfl)
theorem dX1_crooked_35 : decode cX1_crooked 35 = .ok (.aload_n 0, 1) := dk_42 (dk_at dksX1_crooked_1 11 rfl rfl)
theorem dX1_crooked_36 : decode cX1_crooked 36 = .ok (.getfield 30, 3) := dk_180 0 30 (dk_at dksX1_crooked_1 12 rfl rfl)
theorem dX1_crooked_39 : decode cX1_crooked 39 = .ok (.aload_n 0, 1) := dk_42 (dk_at dksX1_crooked_1 15 rfl rfl)
theorem dX1_crooked_40 : decode cX1_crooked 40 = .ok (.getfield 10, 3) := dk_180 0 10 (dk_at dksX1_crooked_1 16 rfl rfl)
theorem dX1_crooked_43 : decode cX1_crooked 43 = .ok (.iload_n 1, 1) := dk_27 (dk_at dksX1_crooked_1 19 rfl rfl)
theorem dX1_crooked_44 : decode cX1_crooked 44 = .ok (.invokevirtual 205, 3) := dk_182 0 205 (dk_at dksX1_crooked_1 20 rfl rfl)
theorem dX1_crooked_47 : decode cX1_crooked 47 = .ok (.invokestatic 259, 3) := dk_184 1 3 (dk_at dksX1_crooked_2 0 rfl rfl)
theorem dX1_crooked_50 : decode cX1_crooked 50 = .ok (.if_icmp .le 5, 3) := dk_164 0 5 (dk_at dksX1_crooked_2 3 rfl rfl)
theorem dX1_crooked_53 : decode cX1_crooked 53 = .ok (.iload_n 2, 1) := dk_28 (dk_at dksX1_crooked_2 6 rfl rfl)
theorem dX1_crooked_54 : decode cX1_crooked 54 = .ok (.istore_n 1, 1) := dk_60 (dk_at dksX1_crooked_2 7 rfl rfl)
theorem dX1_crooked_55 : decode cX1_crooked 55 = .ok (.iinc 2 1, 3) := dk_132 2 1 (dk_at dksX1_crooked_2 8 rfl rfl)
theorem dX1_crooked_58 : decode cX1_crooked 58 = .ok (.goto (-54), 3) := dk_167 255 202 (dk_at dksX1_crooked_2 11 rfl rfl)
theorem dX1_crooked_61 : decode cX1_crooked 61 = .ok (.iload_n 1, 1) := dk_27 (dk_at dksX1_crooked_2 14 rfl rfl)
theorem dX1_crooked_62 : decode cX1_crooked 62 = .ok (.ireturn, 1) := dk_172 (dk_at dksX1_crooked_2 15 rfl rfl)
abbrev cX1_relief : ByteArray := prog_1_method_58_code
def yX1_relief : MethodName := ⟨RX1, "relief", "()I"⟩
def dkwX1_relief_2 : List UInt8 := [21, 4, 28, 163, 0, 6, 167, 0, 8, 29, 60, 21, 4, 61, 132, 3, 1, 167, 255, 199, 27, 172]
abbrev dktX1_relief_2 : List UInt8 := dkwX1_relief_2 ++ []
def dkwX1_relief_1 : List UInt8 := [160, 0, 6, 167, 0, 34, 42, 4, 29, 120, 182, 1, 56, 42, 42, 180, 0, 34, 182, 0, 243, 54, 4]
abbrev dktX1_relief_1 : List UInt8 := dkwX1_relief_1 ++ dktX1_relief_2
def dkwX1_relief_0 : List UInt8 := [2, 60, 2, 61, 3, 62, 29, 42, 182, 0, 83, 162, 0, 55, 42, 180, 0, 30, 29, 182, 0, 189, 2]
abbrev dktX1_relief_0 : List UInt8 := dkwX1_relief_0 ++ dktX1_relief_1
theorem dksX1_relief_0 : cX1_relief.data.toList.drop 0 = dktX1_relief_0 := by decide +kernel
theorem dksX1_relief_1 : cX1_relief.data.toList.drop 23 = dktX1_relief_1 := dk_seg dksX1_relief_0 23 rfl rfl
theorem dksX1_relief_2 : cX1_relief.data.toList.drop 46 = dktX1_relief_2 := dk_seg dksX1_relief_1 23 rfl rfl
theorem dX1_relief_0 : decode cX1_relief 0 = .ok (.iconst (-1), 1) := dk_2 (dk_at dksX1_relief_0 0 rfl rfl)
theorem dX1_relief_1 : decode cX1_relief 1 = .ok (.istore_n 1, 1) := dk_60 (dk_at dksX1_relief_0 1 rfl rfl)
theorem dX1_relief_2 : decode cX1_relief 2 = .ok (.iconst (-1), 1) := dk_2 (dk_at dksX1_relief_0 2 rfl rfl)
theorem dX1_relief_3 : decode cX1_relief 3 = .ok (.istore_n 2, 1) := dk_61 (dk_at dksX1_relief_0 3 rfl rfl)
theorem dX1_relief_4 : decode cX1_relief 4 = .ok (.iconst 0, 1) := dk_3 (dk_at dksX1_relief_0 4 rfl rfl)
theorem dX1_relief_5 : decode cX1_relief 5 = .ok (.istore_n 3, 1) := dk_62 (dk_at dksX1_relief_0 5 rfl rfl)
theorem dX1_relief_6 : decode cX1_relief 6 = .ok (.iload_n 3, 1) := dk_29 (dk_at dksX1_relief_0 6 rfl rfl)
theorem dX1_relief_7 : decode cX1_relief 7 = .ok (.aload_n 0, 1) := dk_42 (dk_at dksX1_relief_0 7 rfl rfl)
theorem dX1_relief_8 : decode cX1_relief 8 = .ok (.invokevirtual 83, 3) := dk_182 0 83 (dk_at dksX1_relief_0 8 rfl rfl)
theorem dX1_relief_11 : decode cX1_relief 11 = .ok (.if_icmp .ge 55, 3) := dk_162 0 55 (dk_at dksX1_relief_0 11 rfl rfl)
theorem dX1_relief_14 : decode cX1_relief 14 = .ok (.aload_n 0, 1) := dk_42 (dk_at dksX1_relief_0 14 rfl rfl)
theorem dX1_relief_15 : decode cX1_relief 15 = .ok (.getfield 30, 3) := dk_180 0 30 (dk_at dksX1_relief_0 15 rfl rfl)
theorem dX1_relief_18 : decode cX1_relief 18 = .ok (.iload_n 3, 1) := dk_29 (dk_at dksX1_relief_0 18 rfl rfl)
theorem dX1_relief_19 : decode cX1_relief 19 = .ok (.invokevirtual 189, 3) := dk_182 0 189 (dk_at dksX1_relief_0 19 rfl rfl)
theorem dX1_relief_22 : decode cX1_relief 22 = .ok (.iconst (-1), 1) := dk_2 (dk_at dksX1_relief_0 22 rfl rfl)
theorem dX1_relief_23 : decode cX1_relief 23 = .ok (.if_icmp .ne 6, 3) := dk_160 0 6 (dk_at dksX1_relief_1 0 rfl rfl)
theorem dX1_relief_26 : decode cX1_relief 26 = .ok (.goto 34, 3) := dk_167 0 34 (dk_at dksX1_relief_1 3 rfl rfl)
theorem dX1_relief_29 : decode cX1_relief 29 = .ok (.aload_n 0, 1) := dk_42 (dk_at dksX1_relief_1 6 rfl rfl)
theorem dX1_relief_30 : decode cX1_relief 30 = .ok (.iconst 1, 1) := dk_4 (dk_at dksX1_relief_1 7 rfl rfl)
theorem dX1_relief_31 : decode cX1_relief 31 = .ok (.iload_n 3, 1) := dk_29 (dk_at dksX1_relief_1 8 rfl rfl)
theorem dX1_relief_32 : decode cX1_relief 32 = .ok (.ishl, 1) := dk_120 (dk_at dksX1_relief_1 9 rfl rfl)
theorem dX1_relief_33 : decode cX1_relief 33 = .ok (.invokevirtual 312, 3) := dk_182 1 56 (dk_at dksX1_relief_1 10 rfl rfl)
theorem dX1_relief_36 : decode cX1_relief 36 = .ok (.aload_n 0, 1) := dk_42 (dk_at dksX1_relief_1 13 rfl rfl)
theorem dX1_relief_37 : decode cX1_relief 37 = .ok (.aload_n 0, 1) := dk_42 (dk_at dksX1_relief_1 14 rfl rfl)
theorem dX1_relief_38 : decode cX1_relief 38 = .ok (.getfield 34, 3) := dk_180 0 34 (dk_at dksX1_relief_1 15 rfl rfl)
theorem dX1_relief_41 : decode cX1_relief 41 = .ok (.invokevirtual 243, 3) := dk_182 0 243 (dk_at dksX1_relief_1 18 rfl rfl)
theorem dX1_relief_44 : decode cX1_relief 44 = .ok (.istore 4, 2) := dk_54 4 (dk_at dksX1_relief_1 21 rfl rfl)
theorem dX1_relief_46 : decode cX1_relief 46 = .ok (.iload 4, 2) := dk_21 4 (dk_at dksX1_relief_2 0 rfl rfl)
theorem dX1_relief_48 : decode cX1_relief 48 = .ok (.iload_n 2, 1) := dk_28 (dk_at dksX1_relief_2 2 rfl rfl)
theorem dX1_relief_49 : decode cX1_relief 49 = .ok (.if_icmp .gt 6, 3) := dk_163 0 6 (dk_at dksX1_relief_2 3 rfl rfl)
theorem dX1_relief_52 : decode cX1_relief 52 = .ok (.goto 8, 3) := dk_167 0 8 (dk_at dksX1_relief_2 6 rfl rfl)
theorem dX1_relief_55 : decode cX1_relief 55 = .ok (.iload_n 3, 1) := dk_29 (dk_at dksX1_relief_2 9 rfl rfl)
theorem dX1_relief_56 : decode cX1_relief 56 = .ok (.istore_n 1, 1) := dk_60 (dk_at dksX1_relief_2 10 rfl rfl)
theorem dX1_relief_57 : decode cX1_relief 57 = .ok (.iload 4, 2) := dk_21 4 (dk_at dksX1_relief_2 11 rfl rfl)
theorem dX1_relief_59 : decode cX1_relief 59 = .ok (.istore_n 2, 1) := dk_61 (dk_at dksX1_relief_2 13 rfl rfl)
theorem dX1_relief_60 : decode cX1_relief 60 = .ok (.iinc 3 1, 3) := dk_132 3 1 (dk_at dksX1_relief_2 14 rfl rfl)
theorem dX1_relief_63 : decode cX1_relief 63 = .ok (.goto (-57), 3) := dk_167 255 199 (dk_at dksX1_relief_2 17 rfl rfl)
theorem dX1_relief_66 : decode cX1_relief 66 = .ok (.iload_n 1, 1) := dk_27 (dk_at dksX1_relief_2 20 rfl rfl)
theorem dX1_relief_67 : decode cX1_relief 67 = .ok (.ireturn, 1) := dk_172 (dk_at dksX1_relief_2 21 rfl rfl)
abbrev cX1_takesAll : ByteArray := prog_1_method_47_code
def yX1_takesAll : MethodName := ⟨RX1, "takesAll", "(I)V"⟩
def dkwX1_takesAll_2 : List UInt8 := [167, 255, 221, 177]
abbrev dktX1_takesAll_2 : List UInt8 := dkwX1_takesAll_2 ++ []
def dkwX1_takesAll_1 : List UInt8 := [4, 126, 4, 160, 0, 18, 42, 180, 0, 34, 42, 180, 0, 34, 28, 182, 0, 189, 182, 0, 226, 132, 2, 1]
abbrev dktX1_takesAll_1 : List UInt8 := dkwX1_takesAll_1 ++ dktX1_takesAll_2
def dkwX1_takesAll_0 : List UInt8 := [42, 180, 0, 34, 42, 180, 0, 30, 182, 0, 239, 3, 61, 28, 42, 182, 0, 83, 162, 0, 33, 27, 28, 122]
abbrev dktX1_takesAll_0 : List UInt8 := dkwX1_takesAll_0 ++ dktX1_takesAll_1
theorem dksX1_takesAll_0 : cX1_takesAll.data.toList.drop 0 = dktX1_takesAll_0 := by decide +kernel
theorem dksX1_takesAll_1 : cX1_takesAll.data.toList.drop 24 = dktX1_takesAll_1 := dk_seg dksX1_takesAll_0 24 rfl rfl
theorem dksX1_takesAll_2 : cX1_takesAll.data.toList.drop 48 = dktX1_takesAll_2 := dk_seg dksX1_takesAll_1 24 rfl rfl
theorem dX1_takesAll_0 : decode cX1_takesAll 0 = .ok (.aload_n 0, 1) := dk_42 (dk_at dksX1_takesAll_0 0 rfl rfl)
theorem dX1_takesAll_1 : decode cX1_takesAll 1 = .ok (.getfield 34, 3) := dk_180 0 34 (dk_at dksX1_takesAll_0 1 rfl rfl)
theorem dX1_takesAll_4 : decode cX1_takesAll 4 = .ok (.aload_n 0, 1) := dk_42 (dk_at dksX1_takesAll_0 4 rfl rfl)
theorem dX1_takesAll_5 : decode cX1_takesAll 5 = .ok (.getfield 30, 3) := dk_180 0 30 (dk_at dksX1_takesAll_0 5 rfl rfl)
theorem dX1_takesAll_8 : decode cX1_takesAll 8 = .ok (.invokevirtual 239, 3) := dk_182 0 239 (dk_at dksX1_takesAll_0 8 rfl rfl)
theorem dX1_takesAll_11 : decode cX1_takesAll 11 = .ok (.iconst 0, 1) := dk_3 (dk_at dksX1_takesAll_0 11 rfl rfl)
theorem dX1_takesAll_12 : decode cX1_takesAll 12 = .ok (.istore_n 2, 1) := dk_61 (dk_at dksX1_takesAll_0 12 rfl rfl)
theorem dX1_takesAll_13 : decode cX1_takesAll 13 = .ok (.iload_n 2, 1) := dk_28 (dk_at dksX1_takesAll_0 13 rfl rfl)
theorem dX1_takesAll_14 : decode cX1_takesAll 14 = .ok (.aload_n 0, 1) := dk_42 (dk_at dksX1_takesAll_0 14 rfl rfl)
theorem dX1_takesAll_15 : decode cX1_takesAll 15 = .ok (.invokevirtual 83, 3) := dk_182 0 83 (dk_at dksX1_takesAll_0 15 rfl rfl)
theorem dX1_takesAll_18 : decode cX1_takesAll 18 = .ok (.if_icmp .ge 33, 3) := dk_162 0 33 (dk_at dksX1_takesAll_0 18 rfl rfl)
theorem dX1_takesAll_21 : decode cX1_takesAll 21 = .ok (.iload_n 1, 1) := dk_27 (dk_at dksX1_takesAll_0 21 rfl rfl)
theorem dX1_takesAll_22 : decode cX1_takesAll 22 = .ok (.iload_n 2, 1) := dk_28 (dk_at dksX1_takesAll_0 22 rfl rfl)
theorem dX1_takesAll_23 : decode cX1_takesAll 23 = .ok (.ishr, 1) := dk_122 (dk_at dksX1_takesAll_0 23 rfl rfl)
theorem dX1_takesAll_24 : decode cX1_takesAll 24 = .ok (.iconst 1, 1) := dk_4 (dk_at dksX1_takesAll_1 0 rfl rfl)
theorem dX1_takesAll_25 : decode cX1_takesAll 25 = .ok (.iand, 1) := dk_126 (dk_at dksX1_takesAll_1 1 rfl rfl)
theorem dX1_takesAll_26 : decode cX1_takesAll 26 = .ok (.iconst 1, 1) := dk_4 (dk_at dksX1_takesAll_1 2 rfl rfl)
theorem dX1_takesAll_27 : decode cX1_takesAll 27 = .ok (.if_icmp .ne 18, 3) := dk_160 0 18 (dk_at dksX1_takesAll_1 3 rfl rfl)
theorem dX1_takesAll_30 : decode cX1_takesAll 30 = .ok (.aload_n 0, 1) := dk_42 (dk_at dksX1_takesAll_1 6 rfl rfl)
theorem dX1_takesAll_31 : decode cX1_takesAll 31 = .ok (.getfield 34, 3) := dk_180 0 34 (dk_at dksX1_takesAll_1 7 rfl rfl)
theorem dX1_takesAll_34 : decode cX1_takesAll 34 = .ok (.aload_n 0, 1) := dk_42 (dk_at dksX1_takesAll_1 10 rfl rfl)
theorem dX1_takesAll_35 : decode cX1_takesAll 35 = .ok (.getfield 34, 3) := dk_180 0 34 (dk_at dksX1_takesAll_1 11 rfl rfl)
theorem dX1_takesAll_38 : decode cX1_takesAll 38 = .ok (.iload_n 2, 1) := dk_28 (dk_at dksX1_takesAll_1 14 rfl rfl)
theorem dX1_takesAll_39 : decode cX1_takesAll 39 = .ok (.invokevirtual 189, 3) := dk_182 0 189 (dk_at dksX1_takesAll_1 15 rfl rfl)
theorem dX1_takesAll_42 : decode cX1_takesAll 42 = .ok (.invokevirtual 226, 3) := dk_182 0 226 (dk_at dksX1_takesAll_1 18 rfl rfl)
theorem dX1_takesAll_45 : decode cX1_takesAll 45 = .ok (.iinc 2 1, 3) := dk_132 2 1 (dk_at dksX1_takesAll_1 21 rfl rfl)
theorem dX1_takesAll_48 : decode cX1_takesAll 48 = .ok (.goto (-35), 3) := dk_167 255 221 (dk_at dksX1_takesAll_2 0 rfl rfl)
theorem dX1_takesAll_51 : decode cX1_takesAll 51 = .ok (.return_, 1) := dk_177 (dk_at dksX1_takesAll_2 3 rfl rfl)
abbrev cX1_hungriest : ByteArray := prog_1_method_59_code
def yX1_hungriest : MethodName := ⟨RX1, "hungriest", "()I"⟩
def dkwX1_hungriest_3 : List UInt8 := [61, 132, 3, 1, 167, 255, 190, 27, 172]
abbrev dktX1_hungriest_3 : List UInt8 := dkwX1_hungriest_3 ++ []
def dkwX1_hungriest_2 : List UInt8 := [180, 0, 30, 29, 182, 0, 189, 2, 159, 0, 17, 21, 4, 28, 163, 0, 6, 167, 0, 8, 29, 60, 21, 4]
abbrev dktX1_hungriest_2 : List UInt8 := dkwX1_hungriest_2 ++ dktX1_hungriest_3
def dkwX1_hungriest_1 : List UInt8 := [182, 0, 89, 192, 0, 93, 180, 0, 180, 42, 180, 0, 30, 180, 0, 183, 29, 46, 100, 54, 4, 42]
abbrev dktX1_hungriest_1 : List UInt8 := dkwX1_hungriest_1 ++ dktX1_hungriest_2
def dkwX1_hungriest_0 : List UInt8 := [2, 60, 3, 61, 3, 62, 29, 42, 182, 0, 83, 162, 0, 64, 42, 180, 0, 10, 180, 0, 73, 29]
abbrev dktX1_hungriest_0 : List UInt8 := dkwX1_hungriest_0 ++ dktX1_hungriest_1
theorem dksX1_hungriest_0 : cX1_hungriest.data.toList.drop 0 = dktX1_hungriest_0 := by decide +kernel
theorem dksX1_hungriest_1 : cX1_hungriest.data.toList.drop 22 = dktX1_hungriest_1 := dk_seg dksX1_hungriest_0 22 rfl rfl
theorem dksX1_hungriest_2 : cX1_hungriest.data.toList.drop 44 = dktX1_hungriest_2 := dk_seg dksX1_hungriest_1 22 rfl rfl
theorem dksX1_hungriest_3 : cX1_hungriest.data.toList.drop 68 = dktX1_hungriest_3 := dk_seg dksX1_hungriest_2 24 rfl rfl
theorem dX1_hungriest_0 : decode cX1_hungriest 0 = .ok (.iconst (-1), 1) := dk_2 (dk_at dksX1_hungriest_0 0 rfl rfl)
theorem dX1_hungriest_1 : decode cX1_hungriest 1 = .ok (.istore_n 1, 1) := dk_60 (dk_at dksX1_hungriest_0 1 rfl rfl)
theorem dX1_hungriest_2 : decode cX1_hungriest 2 = .ok (.iconst 0, 1) := dk_3 (dk_at dksX1_hungriest_0 2 rfl rfl)
theorem dX1_hungriest_3 : decode cX1_hungriest 3 = .ok (.istore_n 2, 1) := dk_61 (dk_at dksX1_hungriest_0 3 rfl rfl)
theorem dX1_hungriest_4 : decode cX1_hungriest 4 = .ok (.iconst 0, 1) := dk_3 (dk_at dksX1_hungriest_0 4 rfl rfl)
theorem dX1_hungriest_5 : decode cX1_hungriest 5 = .ok (.istore_n 3, 1) := dk_62 (dk_at dksX1_hungriest_0 5 rfl rfl)
theorem dX1_hungriest_6 : decode cX1_hungriest 6 = .ok (.iload_n 3, 1) := dk_29 (dk_at dksX1_hungriest_0 6 rfl rfl)
theorem dX1_hungriest_7 : decode cX1_hungriest 7 = .ok (.aload_n 0, 1) := dk_42 (dk_at dksX1_hungriest_0 7 rfl rfl)
theorem dX1_hungriest_8 : decode cX1_hungriest 8 = .ok (.invokevirtual 83, 3) := dk_182 0 83 (dk_at dksX1_hungriest_0 8 rfl rfl)
theorem dX1_hungriest_11 : decode cX1_hungriest 11 = .ok (.if_icmp .ge 64, 3) := dk_162 0 64 (dk_at dksX1_hungriest_0 11 rfl rfl)
theorem dX1_hungriest_14 : decode cX1_hungriest 14 = .ok (.aload_n 0, 1) := dk_42 (dk_at dksX1_hungriest_0 14 rfl rfl)
theorem dX1_hungriest_15 : decode cX1_hungriest 15 = .ok (.getfield 10, 3) := dk_180 0 10 (dk_at dksX1_hungriest_0 15 rfl rfl)
theorem dX1_hungriest_18 : decode cX1_hungriest 18 = .ok (.getfield 73, 3) := dk_180 0 73 (dk_at dksX1_hungriest_0 18 rfl rfl)
theorem dX1_hungriest_21 : decode cX1_hungriest 21 = .ok (.iload_n 3, 1) := dk_29 (dk_at dksX1_hungriest_0 21 rfl rfl)
theorem dX1_hungriest_22 : decode cX1_hungriest 22 = .ok (.invokevirtual 89, 3) := dk_182 0 89 (dk_at dksX1_hungriest_1 0 rfl rfl)
theorem dX1_hungriest_25 : decode cX1_hungriest 25 = .ok (.checkcast 93, 3) := dk_192 0 93 (dk_at dksX1_hungriest_1 3 rfl rfl)
theorem dX1_hungriest_28 : decode cX1_hungriest 28 = .ok (.getfield 180, 3) := dk_180 0 180 (dk_at dksX1_hungriest_1 6 rfl rfl)
theorem dX1_hungriest_31 : decode cX1_hungriest 31 = .ok (.aload_n 0, 1) := dk_42 (dk_at dksX1_hungriest_1 9 rfl rfl)
theorem dX1_hungriest_32 : decode cX1_hungriest 32 = .ok (.getfield 30, 3) := dk_180 0 30 (dk_at dksX1_hungriest_1 10 rfl rfl)
theorem dX1_hungriest_35 : decode cX1_hungriest 35 = .ok (.getfield 183, 3) := dk_180 0 183 (dk_at dksX1_hungriest_1 13 rfl rfl)
theorem dX1_hungriest_38 : decode cX1_hungriest 38 = .ok (.iload_n 3, 1) := dk_29 (dk_at dksX1_hungriest_1 16 rfl rfl)
theorem dX1_hungriest_39 : decode cX1_hungriest 39 = .ok (.iaload, 1) := dk_46 (dk_at dksX1_hungriest_1 17 rfl rfl)
theorem dX1_hungriest_40 : decode cX1_hungriest 40 = .ok (.isub, 1) := dk_100 (dk_at dksX1_hungriest_1 18 rfl rfl)
theorem dX1_hungriest_41 : decode cX1_hungriest 41 = .ok (.istore 4, 2) := dk_54 4 (dk_at dksX1_hungriest_1 19 rfl rfl)
theorem dX1_hungriest_43 : decode cX1_hungriest 43 = .ok (.aload_n 0, 1) := dk_42 (dk_at dksX1_hungriest_1 21 rfl rfl)
theorem dX1_hungriest_44 : decode cX1_hungriest 44 = .ok (.getfield 30, 3) := dk_180 0 30 (dk_at dksX1_hungriest_2 0 rfl rfl)
theorem dX1_hungriest_47 : decode cX1_hungriest 47 = .ok (.iload_n 3, 1) := dk_29 (dk_at dksX1_hungriest_2 3 rfl rfl)
theorem dX1_hungriest_48 : decode cX1_hungriest 48 = .ok (.invokevirtual 189, 3) := dk_182 0 189 (dk_at dksX1_hungriest_2 4 rfl rfl)
theorem dX1_hungriest_51 : decode cX1_hungriest 51 = .ok (.iconst (-1), 1) := dk_2 (dk_at dksX1_hungriest_2 7 rfl rfl)
theorem dX1_hungriest_52 : decode cX1_hungriest 52 = .ok (.if_icmp .eq 17, 3) := dk_159 0 17 (dk_at dksX1_hungriest_2 8 rfl rfl)
theorem dX1_hungriest_55 : decode cX1_hungriest 55 = .ok (.iload 4, 2) := dk_21 4 (dk_at dksX1_hungriest_2 11 rfl rfl)
theorem dX1_hungriest_57 : decode cX1_hungriest 57 = .ok (.iload_n 2, 1) := dk_28 (dk_at dksX1_hungriest_2 13 rfl rfl)
theorem dX1_hungriest_58 : decode cX1_hungriest 58 = .ok (.if_icmp .gt 6, 3) := dk_163 0 6 (dk_at dksX1_hungriest_2 14 rfl rfl)
theorem dX1_hungriest_61 : decode cX1_hungriest 61 = .ok (.goto 8, 3) := dk_167 0 8 (dk_at dksX1_hungriest_2 17 rfl rfl)
theorem dX1_hungriest_64 : decode cX1_hungriest 64 = .ok (.iload_n 3, 1) := dk_29 (dk_at dksX1_hungriest_2 20 rfl rfl)
theorem dX1_hungriest_65 : decode cX1_hungriest 65 = .ok (.istore_n 1, 1) := dk_60 (dk_at dksX1_hungriest_2 21 rfl rfl)
theorem dX1_hungriest_66 : decode cX1_hungriest 66 = .ok (.iload 4, 2) := dk_21 4 (dk_at dksX1_hungriest_2 22 rfl rfl)
theorem dX1_hungriest_68 : decode cX1_hungriest 68 = .ok (.istore_n 2, 1) := dk_61 (dk_at dksX1_hungriest_3 0 rfl rfl)
theorem dX1_hungriest_69 : decode cX1_hungriest 69 = .ok (.iinc 3 1, 3) := dk_132 3 1 (dk_at dksX1_hungriest_3 1 rfl rfl)
theorem dX1_hungriest_72 : decode cX1_hungriest 72 = .ok (.goto (-66), 3) := dk_167 255 190 (dk_at dksX1_hungriest_3 4 rfl rfl)
theorem dX1_hungriest_75 : decode cX1_hungriest 75 = .ok (.iload_n 1, 1) := dk_27 (dk_at dksX1_hungriest_3 7 rfl rfl)
theorem dX1_hungriest_76 : decode cX1_hungriest 76 = .ok (.ireturn, 1) := dk_172 (dk_at dksX1_hungriest_3 8 rfl rfl)
abbrev cX1_see : ByteArray := prog_1_method_60_code
def yX1_see : MethodName := ⟨RX1, "see", "(II)I"⟩
def dkwX1_see_3 : List UInt8 := [180, 0, 130, 4, 96, 181, 0, 130, 42, 180, 0, 19, 180, 0, 130, 172]
abbrev dktX1_see_3 : List UInt8 := dkwX1_see_3 ++ []
def dkwX1_see_2 : List UInt8 := [180, 0, 19, 180, 1, 62, 29, 27, 79, 42, 180, 0, 19, 180, 1, 65, 29, 28, 79, 42, 180, 0, 19, 89]
abbrev dktX1_see_2 : List UInt8 := dkwX1_see_2 ++ dktX1_see_3
def dkwX1_see_1 : List UInt8 := [180, 0, 95, 162, 0, 14, 28, 16, 157, 16, 99, 184, 0, 137, 154, 0, 9, 42, 5, 182, 0, 215, 172, 42]
abbrev dktX1_see_1 : List UInt8 := dkwX1_see_1 ++ dktX1_see_2
def dkwX1_see_0 : List UInt8 := [42, 180, 0, 19, 180, 0, 130, 62, 29, 16, 8, 159, 0, 29, 27, 155, 0, 25, 27, 42, 180, 0, 30]
abbrev dktX1_see_0 : List UInt8 := dkwX1_see_0 ++ dktX1_see_1
theorem dksX1_see_0 : cX1_see.data.toList.drop 0 = dktX1_see_0 := by decide +kernel
theorem dksX1_see_1 : cX1_see.data.toList.drop 23 = dktX1_see_1 := dk_seg dksX1_see_0 23 rfl rfl
theorem dksX1_see_2 : cX1_see.data.toList.drop 47 = dktX1_see_2 := dk_seg dksX1_see_1 24 rfl rfl
theorem dksX1_see_3 : cX1_see.data.toList.drop 71 = dktX1_see_3 := dk_seg dksX1_see_2 24 rfl rfl
theorem dX1_see_0 : decode cX1_see 0 = .ok (.aload_n 0, 1) := dk_42 (dk_at dksX1_see_0 0 rfl rfl)
theorem dX1_see_1 : decode cX1_see 1 = .ok (.getfield 19, 3) := dk_180 0 19 (dk_at dksX1_see_0 1 rfl rfl)
theorem dX1_see_4 : decode cX1_see 4 = .ok (.getfield 130, 3) := dk_180 0 130 (dk_at dksX1_see_0 4 rfl rfl)
theorem dX1_see_7 : decode cX1_see 7 = .ok (.istore_n 3, 1) := dk_62 (dk_at dksX1_see_0 7 rfl rfl)
theorem dX1_see_8 : decode cX1_see 8 = .ok (.iload_n 3, 1) := dk_29 (dk_at dksX1_see_0 8 rfl rfl)
theorem dX1_see_9 : decode cX1_see 9 = .ok (.bipush 8, 2) := dk_16 8 (dk_at dksX1_see_0 9 rfl rfl)
theorem dX1_see_11 : decode cX1_see 11 = .ok (.if_icmp .eq 29, 3) := dk_159 0 29 (dk_at dksX1_see_0 11 rfl rfl)
theorem dX1_see_14 : decode cX1_see 14 = .ok (.iload_n 1, 1) := dk_27 (dk_at dksX1_see_0 14 rfl rfl)
theorem dX1_see_15 : decode cX1_see 15 = .ok (.ifCond .lt 25, 3) := dk_155 0 25 (dk_at dksX1_see_0 15 rfl rfl)
theorem dX1_see_18 : decode cX1_see 18 = .ok (.iload_n 1, 1) := dk_27 (dk_at dksX1_see_0 18 rfl rfl)
theorem dX1_see_19 : decode cX1_see 19 = .ok (.aload_n 0, 1) := dk_42 (dk_at dksX1_see_0 19 rfl rfl)
theorem dX1_see_20 : decode cX1_see 20 = .ok (.getfield 30, 3) := dk_180 0 30 (dk_at dksX1_see_0 20 rfl rfl)
theorem dX1_see_23 : decode cX1_see 23 = .ok (.getfield 95, 3) := dk_180 0 95 (dk_at dksX1_see_1 0 rfl rfl)
theorem dX1_see_26 : decode cX1_see 26 = .ok (.if_icmp .ge 14, 3) := dk_162 0 14 (dk_at dksX1_see_1 3 rfl rfl)
theorem dX1_see_29 : decode cX1_see 29 = .ok (.iload_n 2, 1) := dk_28 (dk_at dksX1_see_1 6 rfl rfl)
theorem dX1_see_30 : decode cX1_see 30 = .ok (.bipush (-99), 2) := dk_16 157 (dk_at dksX1_see_1 7 rfl rfl)
theorem dX1_see_32 : decode cX1_see 32 = .ok (.bipush 99, 2) := dk_16 99 (dk_at dksX1_see_1 9 rfl rfl)
theorem dX1_see_34 : decode cX1_see 34 = .ok (.invokestatic 137, 3) := dk_184 0 137 (dk_at dksX1_see_1 11 rfl rfl)
theorem dX1_see_37 : decode cX1_see 37 = .ok (.ifCond .ne 9, 3) := dk_154 0 9 (dk_at dksX1_see_1 14 rfl rfl)
theorem dX1_see_40 : decode cX1_see 40 = .ok (.aload_n 0, 1) := dk_42 (dk_at dksX1_see_1 17 rfl rfl)
theorem dX1_see_41 : decode cX1_see 41 = .ok (.iconst 2, 1) := dk_5 (dk_at dksX1_see_1 18 rfl rfl)
theorem dX1_see_42 : decode cX1_see 42 = .ok (.invokevirtual 215, 3) := dk_182 0 215 (dk_at dksX1_see_1 19 rfl rfl)
theorem dX1_see_45 : decode cX1_see 45 = .ok (.ireturn, 1) := dk_172 (dk_at dksX1_see_1 22 rfl rfl)
theorem dX1_see_46 : decode cX1_see 46 = .ok (.aload_n 0, 1) := dk_42 (dk_at dksX1_see_1 23 rfl rfl)
theorem dX1_see_47 : decode cX1_see 47 = .ok (.getfield 19, 3) := dk_180 0 19 (dk_at dksX1_see_2 0 rfl rfl)
theorem dX1_see_50 : decode cX1_see 50 = .ok (.getfield 318, 3) := dk_180 1 62 (dk_at dksX1_see_2 3 rfl rfl)
theorem dX1_see_53 : decode cX1_see 53 = .ok (.iload_n 3, 1) := dk_29 (dk_at dksX1_see_2 6 rfl rfl)
theorem dX1_see_54 : decode cX1_see 54 = .ok (.iload_n 1, 1) := dk_27 (dk_at dksX1_see_2 7 rfl rfl)
theorem dX1_see_55 : decode cX1_see 55 = .ok (.iastore, 1) := dk_79 (dk_at dksX1_see_2 8 rfl rfl)
theorem dX1_see_56 : decode cX1_see 56 = .ok (.aload_n 0, 1) := dk_42 (dk_at dksX1_see_2 9 rfl rfl)
theorem dX1_see_57 : decode cX1_see 57 = .ok (.getfield 19, 3) := dk_180 0 19 (dk_at dksX1_see_2 10 rfl rfl)
theorem dX1_see_60 : decode cX1_see 60 = .ok (.getfield 321, 3) := dk_180 1 65 (dk_at dksX1_see_2 13 rfl rfl)
theorem dX1_see_63 : decode cX1_see 63 = .ok (.iload_n 3, 1) := dk_29 (dk_at dksX1_see_2 16 rfl rfl)
theorem dX1_see_64 : decode cX1_see 64 = .ok (.iload_n 2, 1) := dk_28 (dk_at dksX1_see_2 17 rfl rfl)
theorem dX1_see_65 : decode cX1_see 65 = .ok (.iastore, 1) := dk_79 (dk_at dksX1_see_2 18 rfl rfl)
theorem dX1_see_66 : decode cX1_see 66 = .ok (.aload_n 0, 1) := dk_42 (dk_at dksX1_see_2 19 rfl rfl)
theorem dX1_see_67 : decode cX1_see 67 = .ok (.getfield 19, 3) := dk_180 0 19 (dk_at dksX1_see_2 20 rfl rfl)
theorem dX1_see_70 : decode cX1_see 70 = .ok (.dup, 1) := dk_89 (dk_at dksX1_see_2 23 rfl rfl)
theorem dX1_see_71 : decode cX1_see 71 = .ok (.getfield 130, 3) := dk_180 0 130 (dk_at dksX1_see_3 0 rfl rfl)
theorem dX1_see_74 : decode cX1_see 74 = .ok (.iconst 1, 1) := dk_4 (dk_at dksX1_see_3 3 rfl rfl)
theorem dX1_see_75 : decode cX1_see 75 = .ok (.iadd, 1) := dk_96 (dk_at dksX1_see_3 4 rfl rfl)
theorem dX1_see_76 : decode cX1_see 76 = .ok (.putfield 130, 3) := dk_181 0 130 (dk_at dksX1_see_3 5 rfl rfl)
theorem dX1_see_79 : decode cX1_see 79 = .ok (.aload_n 0, 1) := dk_42 (dk_at dksX1_see_3 8 rfl rfl)
theorem dX1_see_80 : decode cX1_see 80 = .ok (.getfield 19, 3) := dk_180 0 19 (dk_at dksX1_see_3 9 rfl rfl)
theorem dX1_see_83 : decode cX1_see 83 = .ok (.getfield 130, 3) := dk_180 0 130 (dk_at dksX1_see_3 12 rfl rfl)
theorem dX1_see_86 : decode cX1_see 86 = .ok (.ireturn, 1) := dk_172 (dk_at dksX1_see_3 15 rfl rfl)
abbrev cX1_look : ByteArray := prog_1_method_66_code
def yX1_look : MethodName := ⟨RX1, "look", "()I"⟩
def dkwX1_look_1 : List UInt8 := [21, 4, 28, 163, 0, 6, 167, 0, 8, 29, 60, 21, 4, 61, 132, 3, 1, 167, 255, 221, 27, 172]
abbrev dktX1_look_1 : List UInt8 := dkwX1_look_1 ++ []
def dkwX1_look_0 : List UInt8 := [2, 60, 3, 61, 3, 62, 29, 42, 180, 0, 30, 180, 0, 95, 162, 0, 30, 42, 29, 182, 1, 75, 54, 4]
abbrev dktX1_look_0 : List UInt8 := dkwX1_look_0 ++ dktX1_look_1
theorem dksX1_look_0 : cX1_look.data.toList.drop 0 = dktX1_look_0 := by decide +kernel
theorem dksX1_look_1 : cX1_look.data.toList.drop 24 = dktX1_look_1 := dk_seg dksX1_look_0 24 rfl rfl
theorem dX1_look_0 : decode cX1_look 0 = .ok (.iconst (-1), 1) := dk_2 (dk_at dksX1_look_0 0 rfl rfl)
theorem dX1_look_1 : decode cX1_look 1 = .ok (.istore_n 1, 1) := dk_60 (dk_at dksX1_look_0 1 rfl rfl)
theorem dX1_look_2 : decode cX1_look 2 = .ok (.iconst 0, 1) := dk_3 (dk_at dksX1_look_0 2 rfl rfl)
theorem dX1_look_3 : decode cX1_look 3 = .ok (.istore_n 2, 1) := dk_61 (dk_at dksX1_look_0 3 rfl rfl)
theorem dX1_look_4 : decode cX1_look 4 = .ok (.iconst 0, 1) := dk_3 (dk_at dksX1_look_0 4 rfl rfl)
theorem dX1_look_5 : decode cX1_look 5 = .ok (.istore_n 3, 1) := dk_62 (dk_at dksX1_look_0 5 rfl rfl)
theorem dX1_look_6 : decode cX1_look 6 = .ok (.iload_n 3, 1) := dk_29 (dk_at dksX1_look_0 6 rfl rfl)
theorem dX1_look_7 : decode cX1_look 7 = .ok (.aload_n 0, 1) := dk_42 (dk_at dksX1_look_0 7 rfl rfl)
theorem dX1_look_8 : decode cX1_look 8 = .ok (.getfield 30, 3) := dk_180 0 30 (dk_at dksX1_look_0 8 rfl rfl)
theorem dX1_look_11 : decode cX1_look 11 = .ok (.getfield 95, 3) := dk_180 0 95 (dk_at dksX1_look_0 11 rfl rfl)
theorem dX1_look_14 : decode cX1_look 14 = .ok (.if_icmp .ge 30, 3) := dk_162 0 30 (dk_at dksX1_look_0 14 rfl rfl)
theorem dX1_look_17 : decode cX1_look 17 = .ok (.aload_n 0, 1) := dk_42 (dk_at dksX1_look_0 17 rfl rfl)
theorem dX1_look_18 : decode cX1_look 18 = .ok (.iload_n 3, 1) := dk_29 (dk_at dksX1_look_0 18 rfl rfl)
theorem dX1_look_19 : decode cX1_look 19 = .ok (.invokevirtual 331, 3) := dk_182 1 75 (dk_at dksX1_look_0 19 rfl rfl)
theorem dX1_look_22 : decode cX1_look 22 = .ok (.istore 4, 2) := dk_54 4 (dk_at dksX1_look_0 22 rfl rfl)
theorem dX1_look_24 : decode cX1_look 24 = .ok (.iload 4, 2) := dk_21 4 (dk_at dksX1_look_1 0 rfl rfl)
theorem dX1_look_26 : decode cX1_look 26 = .ok (.iload_n 2, 1) := dk_28 (dk_at dksX1_look_1 2 rfl rfl)
theorem dX1_look_27 : decode cX1_look 27 = .ok (.if_icmp .gt 6, 3) := dk_163 0 6 (dk_at dksX1_look_1 3 rfl rfl)
theorem dX1_look_30 : decode cX1_look 30 = .ok (.goto 8, 3) := dk_167 0 8 (dk_at dksX1_look_1 6 rfl rfl)
theorem dX1_look_33 : decode cX1_look 33 = .ok (.iload_n 3, 1) := dk_29 (dk_at dksX1_look_1 9 rfl rfl)
theorem dX1_look_34 : decode cX1_look 34 = .ok (.istore_n 1, 1) := dk_60 (dk_at dksX1_look_1 10 rfl rfl)
theorem dX1_look_35 : decode cX1_look 35 = .ok (.iload 4, 2) := dk_21 4 (dk_at dksX1_look_1 11 rfl rfl)
theorem dX1_look_37 : decode cX1_look 37 = .ok (.istore_n 2, 1) := dk_61 (dk_at dksX1_look_1 13 rfl rfl)
theorem dX1_look_38 : decode cX1_look 38 = .ok (.iinc 3 1, 3) := dk_132 3 1 (dk_at dksX1_look_1 14 rfl rfl)
theorem dX1_look_41 : decode cX1_look 41 = .ok (.goto (-35), 3) := dk_167 255 221 (dk_at dksX1_look_1 17 rfl rfl)
theorem dX1_look_44 : decode cX1_look 44 = .ok (.iload_n 1, 1) := dk_27 (dk_at dksX1_look_1 20 rfl rfl)
theorem dX1_look_45 : decode cX1_look 45 = .ok (.ireturn, 1) := dk_172 (dk_at dksX1_look_1 21 rfl rfl)
abbrev cX1_apart : ByteArray := prog_1_method_65_code
def yX1_apart : MethodName := ⟨RX1, "apart", "(I)I"⟩
def dkwX1_apart_3 : List UInt8 := [154, 0, 6, 132, 2, 1, 42, 180, 0, 59, 21, 4, 4, 84, 132, 3, 1, 167, 255, 195, 28, 172]
abbrev dktX1_apart_3 : List UInt8 := dkwX1_apart_3 ++ []
def dkwX1_apart_2 : List UInt8 := [180, 0, 34, 42, 180, 0, 10, 27, 182, 0, 205, 17, 1, 244, 96, 54, 4, 42, 180, 0, 59, 21, 4, 51]
abbrev dktX1_apart_2 : List UInt8 := dkwX1_apart_2 ++ dktX1_apart_3
def dkwX1_apart_1 : List UInt8 := [3, 61, 3, 62, 29, 42, 182, 1, 59, 162, 0, 59, 42, 29, 182, 1, 71, 154, 0, 6, 167, 0, 42, 42]
abbrev dktX1_apart_1 : List UInt8 := dkwX1_apart_1 ++ dktX1_apart_2
def dkwX1_apart_0 : List UInt8 := [3, 61, 28, 42, 180, 0, 59, 190, 162, 0, 16, 42, 180, 0, 59, 28, 3, 84, 132, 2, 1, 167, 255, 237]
abbrev dktX1_apart_0 : List UInt8 := dkwX1_apart_0 ++ dktX1_apart_1
theorem dksX1_apart_0 : cX1_apart.data.toList.drop 0 = dktX1_apart_0 := by decide +kernel
theorem dksX1_apart_1 : cX1_apart.data.toList.drop 24 = dktX1_apart_1 := dk_seg dksX1_apart_0 24 rfl rfl
theorem dksX1_apart_2 : cX1_apart.data.toList.drop 48 = dktX1_apart_2 := dk_seg dksX1_apart_1 24 rfl rfl
theorem dksX1_apart_3 : cX1_apart.data.toList.drop 72 = dktX1_apart_3 := dk_seg dksX1_apart_2 24 rfl rfl
theorem dX1_apart_0 : decode cX1_apart 0 = .ok (.iconst 0, 1) := dk_3 (dk_at dksX1_apart_0 0 rfl rfl)
theorem dX1_apart_1 : decode cX1_apart 1 = .ok (.istore_n 2, 1) := dk_61 (dk_at dksX1_apart_0 1 rfl rfl)
theorem dX1_apart_2 : decode cX1_apart 2 = .ok (.iload_n 2, 1) := dk_28 (dk_at dksX1_apart_0 2 rfl rfl)
theorem dX1_apart_3 : decode cX1_apart 3 = .ok (.aload_n 0, 1) := dk_42 (dk_at dksX1_apart_0 3 rfl rfl)
theorem dX1_apart_4 : decode cX1_apart 4 = .ok (.getfield 59, 3) := dk_180 0 59 (dk_at dksX1_apart_0 4 rfl rfl)
theorem dX1_apart_7 : decode cX1_apart 7 = .ok (.arraylength, 1) := dk_190 (dk_at dksX1_apart_0 7 rfl rfl)
theorem dX1_apart_8 : decode cX1_apart 8 = .ok (.if_icmp .ge 16, 3) := dk_162 0 16 (dk_at dksX1_apart_0 8 rfl rfl)
theorem dX1_apart_11 : decode cX1_apart 11 = .ok (.aload_n 0, 1) := dk_42 (dk_at dksX1_apart_0 11 rfl rfl)
theorem dX1_apart_12 : decode cX1_apart 12 = .ok (.getfield 59, 3) := dk_180 0 59 (dk_at dksX1_apart_0 12 rfl rfl)
theorem dX1_apart_15 : decode cX1_apart 15 = .ok (.iload_n 2, 1) := dk_28 (dk_at dksX1_apart_0 15 rfl rfl)
theorem dX1_apart_16 : decode cX1_apart 16 = .ok (.iconst 0, 1) := dk_3 (dk_at dksX1_apart_0 16 rfl rfl)
theorem dX1_apart_17 : decode cX1_apart 17 = .ok (.bastore, 1) := dk_84 (dk_at dksX1_apart_0 17 rfl rfl)
theorem dX1_apart_18 : decode cX1_apart 18 = .ok (.iinc 2 1, 3) := dk_132 2 1 (dk_at dksX1_apart_0 18 rfl rfl)
theorem dX1_apart_21 : decode cX1_apart 21 = .ok (.goto (-19), 3) := dk_167 255 237 (dk_at dksX1_apart_0 21 rfl rfl)
theorem dX1_apart_24 : decode cX1_apart 24 = .ok (.iconst 0, 1) := dk_3 (dk_at dksX1_apart_1 0 rfl rfl)
theorem dX1_apart_25 : decode cX1_apart 25 = .ok (.istore_n 2, 1) := dk_61 (dk_at dksX1_apart_1 1 rfl rfl)
theorem dX1_apart_26 : decode cX1_apart 26 = .ok (.iconst 0, 1) := dk_3 (dk_at dksX1_apart_1 2 rfl rfl)
theorem dX1_apart_27 : decode cX1_apart 27 = .ok (.istore_n 3, 1) := dk_62 (dk_at dksX1_apart_1 3 rfl rfl)
theorem dX1_apart_28 : decode cX1_apart 28 = .ok (.iload_n 3, 1) := dk_29 (dk_at dksX1_apart_1 4 rfl rfl)
theorem dX1_apart_29 : decode cX1_apart 29 = .ok (.aload_n 0, 1) := dk_42 (dk_at dksX1_apart_1 5 rfl rfl)
theorem dX1_apart_30 : decode cX1_apart 30 = .ok (.invokevirtual 315, 3) := dk_182 1 59 (dk_at dksX1_apart_1 6 rfl rfl)
theorem dX1_apart_33 : decode cX1_apart 33 = .ok (.if_icmp .ge 59, 3) := dk_162 0 59 (dk_at dksX1_apart_1 9 rfl rfl)
theorem dX1_apart_36 : decode cX1_apart 36 = .ok (.aload_n 0, 1) := dk_42 (dk_at dksX1_apart_1 12 rfl rfl)
theorem dX1_apart_37 : decode cX1_apart 37 = .ok (.iload_n 3, 1) := dk_29 (dk_at dksX1_apart_1 13 rfl rfl)
theorem dX1_apart_38 : decode cX1_apart 38 = .ok (.invokevirtual 327, 3) := dk_182 1 71 (dk_at dksX1_apart_1 14 rfl rfl)
theorem dX1_apart_41 : decode cX1_apart 41 = .ok (.ifCond .ne 6, 3) := dk_154 0 6 (dk_at dksX1_apart_1 17 rfl rfl)
theorem dX1_apart_44 : decode cX1_apart 44 = .ok (.goto 42, 3) := dk_167 0 42 (dk_at dksX1_apart_1 20 rfl rfl)
theorem dX1_apart_47 : decode cX1_apart 47 = .ok (.aload_n 0, 1) := dk_42 (dk_at dksX1_apart_1 23 rfl rfl)
theorem dX1_apart_48 : decode cX1_apart 48 = .ok (.getfield 34, 3) := dk_180 0 34 (dk_at dksX1_apart_2 0 rfl rfl)
theorem dX1_apart_51 : decode cX1_apart 51 = .ok (.aload_n 0, 1) := dk_42 (dk_at dksX1_apart_2 3 rfl rfl)
theorem dX1_apart_52 : decode cX1_apart 52 = .ok (.getfield 10, 3) := dk_180 0 10 (dk_at dksX1_apart_2 4 rfl rfl)
theorem dX1_apart_55 : decode cX1_apart 55 = .ok (.iload_n 1, 1) := dk_27 (dk_at dksX1_apart_2 7 rfl rfl)
theorem dX1_apart_56 : decode cX1_apart 56 = .ok (.invokevirtual 205, 3) := dk_182 0 205 (dk_at dksX1_apart_2 8 rfl rfl)
theorem dX1_apart_59 : decode cX1_apart 59 = .ok (.sipush 500, 3) := dk_17 1 244 (dk_at dksX1_apart_2 11 rfl rfl)
theorem dX1_apart_62 : decode cX1_apart 62 = .ok (.iadd, 1) := dk_96 (dk_at dksX1_apart_2 14 rfl rfl)
theorem dX1_apart_63 : decode cX1_apart 63 = .ok (.istore 4, 2) := dk_54 4 (dk_at dksX1_apart_2 15 rfl rfl)
theorem dX1_apart_65 : decode cX1_apart 65 = .ok (.aload_n 0, 1) := dk_42 (dk_at dksX1_apart_2 17 rfl rfl)
theorem dX1_apart_66 : decode cX1_apart 66 = .ok (.getfield 59, 3) := dk_180 0 59 (dk_at dksX1_apart_2 18 rfl rfl)
theorem dX1_apart_69 : decode cX1_apart 69 = .ok (.iload 4, 2) := dk_21 4 (dk_at dksX1_apart_2 21 rfl rfl)
theorem dX1_apart_71 : decode cX1_apart 71 = .ok (.baload, 1) := dk_51 (dk_at dksX1_apart_2 23 rfl rfl)
theorem dX1_apart_72 : decode cX1_apart 72 = .ok (.ifCond .ne 6, 3) := dk_154 0 6 (dk_at dksX1_apart_3 0 rfl rfl)
theorem dX1_apart_75 : decode cX1_apart 75 = .ok (.iinc 2 1, 3) := dk_132 2 1 (dk_at dksX1_apart_3 3 rfl rfl)
theorem dX1_apart_78 : decode cX1_apart 78 = .ok (.aload_n 0, 1) := dk_42 (dk_at dksX1_apart_3 6 rfl rfl)
theorem dX1_apart_79 : decode cX1_apart 79 = .ok (.getfield 59, 3) := dk_180 0 59 (dk_at dksX1_apart_3 7 rfl rfl)
theorem dX1_apart_82 : decode cX1_apart 82 = .ok (.iload 4, 2) := dk_21 4 (dk_at dksX1_apart_3 10 rfl rfl)
theorem dX1_apart_84 : decode cX1_apart 84 = .ok (.iconst 1, 1) := dk_4 (dk_at dksX1_apart_3 12 rfl rfl)
theorem dX1_apart_85 : decode cX1_apart 85 = .ok (.bastore, 1) := dk_84 (dk_at dksX1_apart_3 13 rfl rfl)
theorem dX1_apart_86 : decode cX1_apart 86 = .ok (.iinc 3 1, 3) := dk_132 3 1 (dk_at dksX1_apart_3 14 rfl rfl)
theorem dX1_apart_89 : decode cX1_apart 89 = .ok (.goto (-61), 3) := dk_167 255 195 (dk_at dksX1_apart_3 17 rfl rfl)
theorem dX1_apart_92 : decode cX1_apart 92 = .ok (.iload_n 2, 1) := dk_28 (dk_at dksX1_apart_3 20 rfl rfl)
theorem dX1_apart_93 : decode cX1_apart 93 = .ok (.ireturn, 1) := dk_172 (dk_at dksX1_apart_3 21 rfl rfl)
abbrev cX1_isGuess : ByteArray := prog_1_method_62_code
def yX1_isGuess : MethodName := ⟨RX1, "isGuess", "(I)Z"⟩
def dkwX1_isGuess_2 : List UInt8 := [42, 180, 0, 34, 180, 0, 177, 28, 29, 79, 42, 182, 1, 67, 172]
abbrev dktX1_isGuess_2 : List UInt8 := dkwX1_isGuess_2 ++ []
def dkwX1_isGuess_1 : List UInt8 := [180, 0, 30, 180, 0, 177, 28, 46, 160, 0, 5, 3, 172, 42, 180, 0, 34, 42, 180, 0, 30, 182, 0, 239]
abbrev dktX1_isGuess_1 : List UInt8 := dkwX1_isGuess_1 ++ dktX1_isGuess_2
def dkwX1_isGuess_0 : List UInt8 := [42, 180, 0, 30, 180, 0, 195, 27, 16, 19, 108, 46, 61, 27, 16, 19, 112, 16, 9, 100, 62, 29, 42]
abbrev dktX1_isGuess_0 : List UInt8 := dkwX1_isGuess_0 ++ dktX1_isGuess_1
theorem dksX1_isGuess_0 : cX1_isGuess.data.toList.drop 0 = dktX1_isGuess_0 := by decide +kernel
theorem dksX1_isGuess_1 : cX1_isGuess.data.toList.drop 23 = dktX1_isGuess_1 := dk_seg dksX1_isGuess_0 23 rfl rfl
theorem dksX1_isGuess_2 : cX1_isGuess.data.toList.drop 47 = dktX1_isGuess_2 := dk_seg dksX1_isGuess_1 24 rfl rfl
theorem dX1_isGuess_0 : decode cX1_isGuess 0 = .ok (.aload_n 0, 1) := dk_42 (dk_at dksX1_isGuess_0 0 rfl rfl)
theorem dX1_isGuess_1 : decode cX1_isGuess 1 = .ok (.getfield 30, 3) := dk_180 0 30 (dk_at dksX1_isGuess_0 1 rfl rfl)
theorem dX1_isGuess_4 : decode cX1_isGuess 4 = .ok (.getfield 195, 3) := dk_180 0 195 (dk_at dksX1_isGuess_0 4 rfl rfl)
theorem dX1_isGuess_7 : decode cX1_isGuess 7 = .ok (.iload_n 1, 1) := dk_27 (dk_at dksX1_isGuess_0 7 rfl rfl)
theorem dX1_isGuess_8 : decode cX1_isGuess 8 = .ok (.bipush 19, 2) := dk_16 19 (dk_at dksX1_isGuess_0 8 rfl rfl)
theorem dX1_isGuess_10 : decode cX1_isGuess 10 = .ok (.idiv, 1) := dk_108 (dk_at dksX1_isGuess_0 10 rfl rfl)
theorem dX1_isGuess_11 : decode cX1_isGuess 11 = .ok (.iaload, 1) := dk_46 (dk_at dksX1_isGuess_0 11 rfl rfl)
theorem dX1_isGuess_12 : decode cX1_isGuess 12 = .ok (.istore_n 2, 1) := dk_61 (dk_at dksX1_isGuess_0 12 rfl rfl)
theorem dX1_isGuess_13 : decode cX1_isGuess 13 = .ok (.iload_n 1, 1) := dk_27 (dk_at dksX1_isGuess_0 13 rfl rfl)
theorem dX1_isGuess_14 : decode cX1_isGuess 14 = .ok (.bipush 19, 2) := dk_16 19 (dk_at dksX1_isGuess_0 14 rfl rfl)
theorem dX1_isGuess_16 : decode cX1_isGuess 16 = .ok (.irem, 1) := dk_112 (dk_at dksX1_isGuess_0 16 rfl rfl)
theorem dX1_isGuess_17 : decode cX1_isGuess 17 = .ok (.bipush 9, 2) := dk_16 9 (dk_at dksX1_isGuess_0 17 rfl rfl)
theorem dX1_isGuess_19 : decode cX1_isGuess 19 = .ok (.isub, 1) := dk_100 (dk_at dksX1_isGuess_0 19 rfl rfl)
theorem dX1_isGuess_20 : decode cX1_isGuess 20 = .ok (.istore_n 3, 1) := dk_62 (dk_at dksX1_isGuess_0 20 rfl rfl)
theorem dX1_isGuess_21 : decode cX1_isGuess 21 = .ok (.iload_n 3, 1) := dk_29 (dk_at dksX1_isGuess_0 21 rfl rfl)
theorem dX1_isGuess_22 : decode cX1_isGuess 22 = .ok (.aload_n 0, 1) := dk_42 (dk_at dksX1_isGuess_0 22 rfl rfl)
theorem dX1_isGuess_23 : decode cX1_isGuess 23 = .ok (.getfield 30, 3) := dk_180 0 30 (dk_at dksX1_isGuess_1 0 rfl rfl)
theorem dX1_isGuess_26 : decode cX1_isGuess 26 = .ok (.getfield 177, 3) := dk_180 0 177 (dk_at dksX1_isGuess_1 3 rfl rfl)
theorem dX1_isGuess_29 : decode cX1_isGuess 29 = .ok (.iload_n 2, 1) := dk_28 (dk_at dksX1_isGuess_1 6 rfl rfl)
theorem dX1_isGuess_30 : decode cX1_isGuess 30 = .ok (.iaload, 1) := dk_46 (dk_at dksX1_isGuess_1 7 rfl rfl)
theorem dX1_isGuess_31 : decode cX1_isGuess 31 = .ok (.if_icmp .ne 5, 3) := dk_160 0 5 (dk_at dksX1_isGuess_1 8 rfl rfl)
theorem dX1_isGuess_34 : decode cX1_isGuess 34 = .ok (.iconst 0, 1) := dk_3 (dk_at dksX1_isGuess_1 11 rfl rfl)
theorem dX1_isGuess_35 : decode cX1_isGuess 35 = .ok (.ireturn, 1) := dk_172 (dk_at dksX1_isGuess_1 12 rfl rfl)
theorem dX1_isGuess_36 : decode cX1_isGuess 36 = .ok (.aload_n 0, 1) := dk_42 (dk_at dksX1_isGuess_1 13 rfl rfl)
theorem dX1_isGuess_37 : decode cX1_isGuess 37 = .ok (.getfield 34, 3) := dk_180 0 34 (dk_at dksX1_isGuess_1 14 rfl rfl)
theorem dX1_isGuess_40 : decode cX1_isGuess 40 = .ok (.aload_n 0, 1) := dk_42 (dk_at dksX1_isGuess_1 17 rfl rfl)
theorem dX1_isGuess_41 : decode cX1_isGuess 41 = .ok (.getfield 30, 3) := dk_180 0 30 (dk_at dksX1_isGuess_1 18 rfl rfl)
theorem dX1_isGuess_44 : decode cX1_isGuess 44 = .ok (.invokevirtual 239, 3) := dk_182 0 239 (dk_at dksX1_isGuess_1 21 rfl rfl)
theorem dX1_isGuess_47 : decode cX1_isGuess 47 = .ok (.aload_n 0, 1) := dk_42 (dk_at dksX1_isGuess_2 0 rfl rfl)
theorem dX1_isGuess_48 : decode cX1_isGuess 48 = .ok (.getfield 34, 3) := dk_180 0 34 (dk_at dksX1_isGuess_2 1 rfl rfl)
theorem dX1_isGuess_51 : decode cX1_isGuess 51 = .ok (.getfield 177, 3) := dk_180 0 177 (dk_at dksX1_isGuess_2 4 rfl rfl)
theorem dX1_isGuess_54 : decode cX1_isGuess 54 = .ok (.iload_n 2, 1) := dk_28 (dk_at dksX1_isGuess_2 7 rfl rfl)
theorem dX1_isGuess_55 : decode cX1_isGuess 55 = .ok (.iload_n 3, 1) := dk_29 (dk_at dksX1_isGuess_2 8 rfl rfl)
theorem dX1_isGuess_56 : decode cX1_isGuess 56 = .ok (.iastore, 1) := dk_79 (dk_at dksX1_isGuess_2 9 rfl rfl)
theorem dX1_isGuess_57 : decode cX1_isGuess 57 = .ok (.aload_n 0, 1) := dk_42 (dk_at dksX1_isGuess_2 10 rfl rfl)
theorem dX1_isGuess_58 : decode cX1_isGuess 58 = .ok (.invokevirtual 323, 3) := dk_182 1 67 (dk_at dksX1_isGuess_2 11 rfl rfl)
theorem dX1_isGuess_61 : decode cX1_isGuess 61 = .ok (.ireturn, 1) := dk_172 (dk_at dksX1_isGuess_2 14 rfl rfl)
abbrev cX1_isSeen : ByteArray := prog_1_method_61_code
def yX1_isSeen : MethodName := ⟨RX1, "isSeen", "()Z"⟩
def dkwX1_isSeen_3 : List UInt8 := [167, 255, 189, 4, 172]
abbrev dktX1_isSeen_3 : List UInt8 := dkwX1_isSeen_3 ++ []
def dkwX1_isSeen_2 : List UInt8 := [27, 46, 182, 0, 205, 42, 180, 0, 19, 180, 1, 65, 27, 46, 159, 0, 5, 3, 172, 132, 1, 1]
abbrev dktX1_isSeen_2 : List UInt8 := dkwX1_isSeen_2 ++ dktX1_isSeen_3
def dkwX1_isSeen_1 : List UInt8 := [180, 0, 34, 180, 0, 95, 162, 0, 35, 42, 180, 0, 34, 42, 180, 0, 10, 42, 180, 0, 19, 180, 1, 62]
abbrev dktX1_isSeen_1 : List UInt8 := dkwX1_isSeen_1 ++ dktX1_isSeen_2
def dkwX1_isSeen_0 : List UInt8 := [3, 60, 27, 42, 180, 0, 19, 180, 0, 130, 162, 0, 62, 42, 180, 0, 19, 180, 1, 62, 27, 46, 42]
abbrev dktX1_isSeen_0 : List UInt8 := dkwX1_isSeen_0 ++ dktX1_isSeen_1
theorem dksX1_isSeen_0 : cX1_isSeen.data.toList.drop 0 = dktX1_isSeen_0 := by decide +kernel
theorem dksX1_isSeen_1 : cX1_isSeen.data.toList.drop 23 = dktX1_isSeen_1 := dk_seg dksX1_isSeen_0 23 rfl rfl
theorem dksX1_isSeen_2 : cX1_isSeen.data.toList.drop 47 = dktX1_isSeen_2 := dk_seg dksX1_isSeen_1 24 rfl rfl
theorem dksX1_isSeen_3 : cX1_isSeen.data.toList.drop 69 = dktX1_isSeen_3 := dk_seg dksX1_isSeen_2 22 rfl rfl
theorem dX1_isSeen_0 : decode cX1_isSeen 0 = .ok (.iconst 0, 1) := dk_3 (dk_at dksX1_isSeen_0 0 rfl rfl)
theorem dX1_isSeen_1 : decode cX1_isSeen 1 = .ok (.istore_n 1, 1) := dk_60 (dk_at dksX1_isSeen_0 1 rfl rfl)
theorem dX1_isSeen_2 : decode cX1_isSeen 2 = .ok (.iload_n 1, 1) := dk_27 (dk_at dksX1_isSeen_0 2 rfl rfl)
theorem dX1_isSeen_3 : decode cX1_isSeen 3 = .ok (.aload_n 0, 1) := dk_42 (dk_at dksX1_isSeen_0 3 rfl rfl)
theorem dX1_isSeen_4 : decode cX1_isSeen 4 = .ok (.getfield 19, 3) := dk_180 0 19 (dk_at dksX1_isSeen_0 4 rfl rfl)
theorem dX1_isSeen_7 : decode cX1_isSeen 7 = .ok (.getfield 130, 3) := dk_180 0 130 (dk_at dksX1_isSeen_0 7 rfl rfl)
theorem dX1_isSeen_10 : decode cX1_isSeen 10 = .ok (.if_icmp .ge 62, 3) := dk_162 0 62 (dk_at dksX1_isSeen_0 10 rfl rfl)
theorem dX1_isSeen_13 : decode cX1_isSeen 13 = .ok (.aload_n 0, 1) := dk_42 (dk_at dksX1_isSeen_0 13 rfl rfl)
theorem dX1_isSeen_14 : decode cX1_isSeen 14 = .ok (.getfield 19, 3) := dk_180 0 19 (dk_at dksX1_isSeen_0 14 rfl rfl)
theorem dX1_isSeen_17 : decode cX1_isSeen 17 = .ok (.getfield 318, 3) := dk_180 1 62 (dk_at dksX1_isSeen_0 17 rfl rfl)
theorem dX1_isSeen_20 : decode cX1_isSeen 20 = .ok (.iload_n 1, 1) := dk_27 (dk_at dksX1_isSeen_0 20 rfl rfl)
theorem dX1_isSeen_21 : decode cX1_isSeen 21 = .ok (.iaload, 1) := dk_46 (dk_at dksX1_isSeen_0 21 rfl rfl)
theorem dX1_isSeen_22 : decode cX1_isSeen 22 = .ok (.aload_n 0, 1) := dk_42 (dk_at dksX1_isSeen_0 22 rfl rfl)
theorem dX1_isSeen_23 : decode cX1_isSeen 23 = .ok (.getfield 34, 3) := dk_180 0 34 (dk_at dksX1_isSeen_1 0 rfl rfl)
theorem dX1_isSeen_26 : decode cX1_isSeen 26 = .ok (.getfield 95, 3) := dk_180 0 95 (dk_at dksX1_isSeen_1 3 rfl rfl)
theorem dX1_isSeen_29 : decode cX1_isSeen 29 = .ok (.if_icmp .ge 35, 3) := dk_162 0 35 (dk_at dksX1_isSeen_1 6 rfl rfl)
theorem dX1_isSeen_32 : decode cX1_isSeen 32 = .ok (.aload_n 0, 1) := dk_42 (dk_at dksX1_isSeen_1 9 rfl rfl)
theorem dX1_isSeen_33 : decode cX1_isSeen 33 = .ok (.getfield 34, 3) := dk_180 0 34 (dk_at dksX1_isSeen_1 10 rfl rfl)
theorem dX1_isSeen_36 : decode cX1_isSeen 36 = .ok (.aload_n 0, 1) := dk_42 (dk_at dksX1_isSeen_1 13 rfl rfl)
theorem dX1_isSeen_37 : decode cX1_isSeen 37 = .ok (.getfield 10, 3) := dk_180 0 10 (dk_at dksX1_isSeen_1 14 rfl rfl)
theorem dX1_isSeen_40 : decode cX1_isSeen 40 = .ok (.aload_n 0, 1) := dk_42 (dk_at dksX1_isSeen_1 17 rfl rfl)
theorem dX1_isSeen_41 : decode cX1_isSeen 41 = .ok (.getfield 19, 3) := dk_180 0 19 (dk_at dksX1_isSeen_1 18 rfl rfl)
theorem dX1_isSeen_44 : decode cX1_isSeen 44 = .ok (.getfield 318, 3) := dk_180 1 62 (dk_at dksX1_isSeen_1 21 rfl rfl)
theorem dX1_isSeen_47 : decode cX1_isSeen 47 = .ok (.iload_n 1, 1) := dk_27 (dk_at dksX1_isSeen_2 0 rfl rfl)
theorem dX1_isSeen_48 : decode cX1_isSeen 48 = .ok (.iaload, 1) := dk_46 (dk_at dksX1_isSeen_2 1 rfl rfl)
theorem dX1_isSeen_49 : decode cX1_isSeen 49 = .ok (.invokevirtual 205, 3) := dk_182 0 205 (dk_at dksX1_isSeen_2 2 rfl rfl)
theorem dX1_isSeen_52 : decode cX1_isSeen 52 = .ok (.aload_n 0, 1) := dk_42 (dk_at dksX1_isSeen_2 5 rfl rfl)
theorem dX1_isSeen_53 : decode cX1_isSeen 53 = .ok (.getfield 19, 3) := dk_180 0 19 (dk_at dksX1_isSeen_2 6 rfl rfl)
theorem dX1_isSeen_56 : decode cX1_isSeen 56 = .ok (.getfield 321, 3) := dk_180 1 65 (dk_at dksX1_isSeen_2 9 rfl rfl)
theorem dX1_isSeen_59 : decode cX1_isSeen 59 = .ok (.iload_n 1, 1) := dk_27 (dk_at dksX1_isSeen_2 12 rfl rfl)
theorem dX1_isSeen_60 : decode cX1_isSeen 60 = .ok (.iaload, 1) := dk_46 (dk_at dksX1_isSeen_2 13 rfl rfl)
theorem dX1_isSeen_61 : decode cX1_isSeen 61 = .ok (.if_icmp .eq 5, 3) := dk_159 0 5 (dk_at dksX1_isSeen_2 14 rfl rfl)
theorem dX1_isSeen_64 : decode cX1_isSeen 64 = .ok (.iconst 0, 1) := dk_3 (dk_at dksX1_isSeen_2 17 rfl rfl)
theorem dX1_isSeen_65 : decode cX1_isSeen 65 = .ok (.ireturn, 1) := dk_172 (dk_at dksX1_isSeen_2 18 rfl rfl)
theorem dX1_isSeen_66 : decode cX1_isSeen 66 = .ok (.iinc 1 1, 3) := dk_132 1 1 (dk_at dksX1_isSeen_2 19 rfl rfl)
theorem dX1_isSeen_69 : decode cX1_isSeen 69 = .ok (.goto (-67), 3) := dk_167 255 189 (dk_at dksX1_isSeen_3 0 rfl rfl)
theorem dX1_isSeen_72 : decode cX1_isSeen 72 = .ok (.iconst 1, 1) := dk_4 (dk_at dksX1_isSeen_3 3 rfl rfl)
theorem dX1_isSeen_73 : decode cX1_isSeen 73 = .ok (.ireturn, 1) := dk_172 (dk_at dksX1_isSeen_3 4 rfl rfl)
abbrev cX1_forget : ByteArray := prog_1_method_67_code
def yX1_forget : MethodName := ⟨RX1, "forget", "()V"⟩
def dkwX1_forget_0 : List UInt8 := [42, 180, 0, 19, 3, 181, 0, 130, 177]
abbrev dktX1_forget_0 : List UInt8 := dkwX1_forget_0 ++ []
theorem dksX1_forget_0 : cX1_forget.data.toList.drop 0 = dktX1_forget_0 := by decide +kernel
theorem dX1_forget_0 : decode cX1_forget 0 = .ok (.aload_n 0, 1) := dk_42 (dk_at dksX1_forget_0 0 rfl rfl)
theorem dX1_forget_1 : decode cX1_forget 1 = .ok (.getfield 19, 3) := dk_180 0 19 (dk_at dksX1_forget_0 1 rfl rfl)
theorem dX1_forget_4 : decode cX1_forget 4 = .ok (.iconst 0, 1) := dk_3 (dk_at dksX1_forget_0 4 rfl rfl)
theorem dX1_forget_5 : decode cX1_forget 5 = .ok (.putfield 130, 3) := dk_181 0 130 (dk_at dksX1_forget_0 5 rfl rfl)
theorem dX1_forget_8 : decode cX1_forget 8 = .ok (.return_, 1) := dk_177 (dk_at dksX1_forget_0 8 rfl rfl)
abbrev cX1_image : ByteArray := prog_1_method_74_code
def yX1_image : MethodName := ⟨RX1, "image", "()V"⟩
def dkwX1_image_0 : List UInt8 := [42, 180, 0, 23, 42, 180, 0, 19, 182, 1, 94, 42, 4, 181, 0, 133, 177]
abbrev dktX1_image_0 : List UInt8 := dkwX1_image_0 ++ []
theorem dksX1_image_0 : cX1_image.data.toList.drop 0 = dktX1_image_0 := by decide +kernel
theorem dX1_image_0 : decode cX1_image 0 = .ok (.aload_n 0, 1) := dk_42 (dk_at dksX1_image_0 0 rfl rfl)
theorem dX1_image_1 : decode cX1_image 1 = .ok (.getfield 23, 3) := dk_180 0 23 (dk_at dksX1_image_0 1 rfl rfl)
theorem dX1_image_4 : decode cX1_image 4 = .ok (.aload_n 0, 1) := dk_42 (dk_at dksX1_image_0 4 rfl rfl)
theorem dX1_image_5 : decode cX1_image 5 = .ok (.getfield 19, 3) := dk_180 0 19 (dk_at dksX1_image_0 5 rfl rfl)
theorem dX1_image_8 : decode cX1_image 8 = .ok (.invokevirtual 350, 3) := dk_182 1 94 (dk_at dksX1_image_0 8 rfl rfl)
theorem dX1_image_11 : decode cX1_image 11 = .ok (.aload_n 0, 1) := dk_42 (dk_at dksX1_image_0 11 rfl rfl)
theorem dX1_image_12 : decode cX1_image 12 = .ok (.iconst 1, 1) := dk_4 (dk_at dksX1_image_0 12 rfl rfl)
theorem dX1_image_13 : decode cX1_image 13 = .ok (.putfield 133, 3) := dk_181 0 133 (dk_at dksX1_image_0 13 rfl rfl)
theorem dX1_image_16 : decode cX1_image 16 = .ok (.return_, 1) := dk_177 (dk_at dksX1_image_0 16 rfl rfl)
abbrev cX1_restore : ByteArray := prog_1_method_75_code
def yX1_restore : MethodName := ⟨RX1, "restore", "()Z"⟩
def dkwX1_restore_0 : List UInt8 := [42, 180, 0, 133, 154, 0, 5, 3, 172, 42, 180, 0, 19, 42, 180, 0, 23, 182, 1, 94, 4, 172]
abbrev dktX1_restore_0 : List UInt8 := dkwX1_restore_0 ++ []
theorem dksX1_restore_0 : cX1_restore.data.toList.drop 0 = dktX1_restore_0 := by decide +kernel
theorem dX1_restore_0 : decode cX1_restore 0 = .ok (.aload_n 0, 1) := dk_42 (dk_at dksX1_restore_0 0 rfl rfl)
theorem dX1_restore_1 : decode cX1_restore 1 = .ok (.getfield 133, 3) := dk_180 0 133 (dk_at dksX1_restore_0 1 rfl rfl)
theorem dX1_restore_4 : decode cX1_restore 4 = .ok (.ifCond .ne 5, 3) := dk_154 0 5 (dk_at dksX1_restore_0 4 rfl rfl)
theorem dX1_restore_7 : decode cX1_restore 7 = .ok (.iconst 0, 1) := dk_3 (dk_at dksX1_restore_0 7 rfl rfl)
theorem dX1_restore_8 : decode cX1_restore 8 = .ok (.ireturn, 1) := dk_172 (dk_at dksX1_restore_0 8 rfl rfl)
theorem dX1_restore_9 : decode cX1_restore 9 = .ok (.aload_n 0, 1) := dk_42 (dk_at dksX1_restore_0 9 rfl rfl)
theorem dX1_restore_10 : decode cX1_restore 10 = .ok (.getfield 19, 3) := dk_180 0 19 (dk_at dksX1_restore_0 10 rfl rfl)
theorem dX1_restore_13 : decode cX1_restore 13 = .ok (.aload_n 0, 1) := dk_42 (dk_at dksX1_restore_0 13 rfl rfl)
theorem dX1_restore_14 : decode cX1_restore 14 = .ok (.getfield 23, 3) := dk_180 0 23 (dk_at dksX1_restore_0 14 rfl rfl)
theorem dX1_restore_17 : decode cX1_restore 17 = .ok (.invokevirtual 350, 3) := dk_182 1 94 (dk_at dksX1_restore_0 17 rfl rfl)
theorem dX1_restore_20 : decode cX1_restore 20 = .ok (.iconst 1, 1) := dk_4 (dk_at dksX1_restore_0 20 rfl rfl)
theorem dX1_restore_21 : decode cX1_restore 21 = .ok (.ireturn, 1) := dk_172 (dk_at dksX1_restore_0 21 rfl rfl)
abbrev cX1_town : ByteArray := prog_1_method_10_code
def yX1_town : MethodName := ⟨RX1, "town", "(I)I"⟩
def dkwX1_town_4 : List UInt8 := [3, 181, 0, 127, 42, 180, 0, 19, 3, 181, 0, 130, 42, 3, 181, 0, 133, 3, 172]
abbrev dktX1_town_4 : List UInt8 := dkwX1_town_4 ++ []
def dkwX1_town_3 : List UInt8 := [46, 4, 96, 79, 44, 180, 0, 124, 172, 42, 180, 0, 30, 42, 180, 0, 10, 182, 0, 63, 42, 180, 0, 19]
abbrev dktX1_town_3 : List UInt8 := dkwX1_town_3 ++ dktX1_town_4
def dkwX1_town_2 : List UInt8 := [181, 0, 10, 167, 0, 30, 77, 42, 44, 180, 0, 118, 181, 0, 41, 42, 180, 0, 19, 180, 0, 121, 3, 92]
abbrev dktX1_town_2 : List UInt8 := dkwX1_town_2 ++ dktX1_town_3
def dkwX1_town_1 : List UInt8 := [181, 0, 98, 42, 2, 181, 0, 41, 42, 187, 0, 108, 89, 42, 180, 0, 37, 27, 183, 0, 110, 182, 0, 113]
abbrev dktX1_town_1 : List UInt8 := dkwX1_town_1 ++ dktX1_town_2
def dkwX1_town_0 : List UInt8 := [27, 155, 0, 15, 27, 42, 180, 0, 98, 163, 0, 7, 4, 167, 0, 4, 3, 184, 0, 105, 42, 3]
abbrev dktX1_town_0 : List UInt8 := dkwX1_town_0 ++ dktX1_town_1
theorem dksX1_town_0 : cX1_town.data.toList.drop 0 = dktX1_town_0 := by decide +kernel
theorem dksX1_town_1 : cX1_town.data.toList.drop 22 = dktX1_town_1 := dk_seg dksX1_town_0 22 rfl rfl
theorem dksX1_town_2 : cX1_town.data.toList.drop 46 = dktX1_town_2 := dk_seg dksX1_town_1 24 rfl rfl
theorem dksX1_town_3 : cX1_town.data.toList.drop 70 = dktX1_town_3 := dk_seg dksX1_town_2 24 rfl rfl
theorem dksX1_town_4 : cX1_town.data.toList.drop 94 = dktX1_town_4 := dk_seg dksX1_town_3 24 rfl rfl
theorem dX1_town_0 : decode cX1_town 0 = .ok (.iload_n 1, 1) := dk_27 (dk_at dksX1_town_0 0 rfl rfl)
theorem dX1_town_1 : decode cX1_town 1 = .ok (.ifCond .lt 15, 3) := dk_155 0 15 (dk_at dksX1_town_0 1 rfl rfl)
theorem dX1_town_4 : decode cX1_town 4 = .ok (.iload_n 1, 1) := dk_27 (dk_at dksX1_town_0 4 rfl rfl)
theorem dX1_town_5 : decode cX1_town 5 = .ok (.aload_n 0, 1) := dk_42 (dk_at dksX1_town_0 5 rfl rfl)
theorem dX1_town_6 : decode cX1_town 6 = .ok (.getfield 98, 3) := dk_180 0 98 (dk_at dksX1_town_0 6 rfl rfl)
theorem dX1_town_9 : decode cX1_town 9 = .ok (.if_icmp .gt 7, 3) := dk_163 0 7 (dk_at dksX1_town_0 9 rfl rfl)
theorem dX1_town_12 : decode cX1_town 12 = .ok (.iconst 1, 1) := dk_4 (dk_at dksX1_town_0 12 rfl rfl)
theorem dX1_town_13 : decode cX1_town 13 = .ok (.goto 4, 3) := dk_167 0 4 (dk_at dksX1_town_0 13 rfl rfl)
theorem dX1_town_16 : decode cX1_town 16 = .ok (.iconst 0, 1) := dk_3 (dk_at dksX1_town_0 16 rfl rfl)
theorem dX1_town_17 : decode cX1_town 17 = .ok (.invokestatic 105, 3) := dk_184 0 105 (dk_at dksX1_town_0 17 rfl rfl)
theorem dX1_town_20 : decode cX1_town 20 = .ok (.aload_n 0, 1) := dk_42 (dk_at dksX1_town_0 20 rfl rfl)
theorem dX1_town_21 : decode cX1_town 21 = .ok (.iconst 0, 1) := dk_3 (dk_at dksX1_town_0 21 rfl rfl)
theorem dX1_town_22 : decode cX1_town 22 = .ok (.putfield 98, 3) := dk_181 0 98 (dk_at dksX1_town_1 0 rfl rfl)
theorem dX1_town_25 : decode cX1_town 25 = .ok (.aload_n 0, 1) := dk_42 (dk_at dksX1_town_1 3 rfl rfl)
theorem dX1_town_26 : decode cX1_town 26 = .ok (.iconst (-1), 1) := dk_2 (dk_at dksX1_town_1 4 rfl rfl)
theorem dX1_town_27 : decode cX1_town 27 = .ok (.putfield 41, 3) := dk_181 0 41 (dk_at dksX1_town_1 5 rfl rfl)
theorem dX1_town_30 : decode cX1_town 30 = .ok (.aload_n 0, 1) := dk_42 (dk_at dksX1_town_1 8 rfl rfl)
theorem dX1_town_31 : decode cX1_town 31 = .ok (.new 108, 3) := dk_187 0 108 (dk_at dksX1_town_1 9 rfl rfl)
theorem dX1_town_34 : decode cX1_town 34 = .ok (.dup, 1) := dk_89 (dk_at dksX1_town_1 12 rfl rfl)
theorem dX1_town_35 : decode cX1_town 35 = .ok (.aload_n 0, 1) := dk_42 (dk_at dksX1_town_1 13 rfl rfl)
theorem dX1_town_36 : decode cX1_town 36 = .ok (.getfield 37, 3) := dk_180 0 37 (dk_at dksX1_town_1 14 rfl rfl)
theorem dX1_town_39 : decode cX1_town 39 = .ok (.iload_n 1, 1) := dk_27 (dk_at dksX1_town_1 17 rfl rfl)
theorem dX1_town_40 : decode cX1_town 40 = .ok (.invokespecial 110, 3) := dk_183 0 110 (dk_at dksX1_town_1 18 rfl rfl)
theorem dX1_town_43 : decode cX1_town 43 = .ok (.invokevirtual 113, 3) := dk_182 0 113 (dk_at dksX1_town_1 21 rfl rfl)
theorem dX1_town_46 : decode cX1_town 46 = .ok (.putfield 10, 3) := dk_181 0 10 (dk_at dksX1_town_2 0 rfl rfl)
theorem dX1_town_49 : decode cX1_town 49 = .ok (.goto 30, 3) := dk_167 0 30 (dk_at dksX1_town_2 3 rfl rfl)
theorem dX1_town_52 : decode cX1_town 52 = .ok (.astore_n 2, 1) := dk_77 (dk_at dksX1_town_2 6 rfl rfl)
theorem dX1_town_53 : decode cX1_town 53 = .ok (.aload_n 0, 1) := dk_42 (dk_at dksX1_town_2 7 rfl rfl)
theorem dX1_town_54 : decode cX1_town 54 = .ok (.aload_n 2, 1) := dk_44 (dk_at dksX1_town_2 8 rfl rfl)
theorem dX1_town_55 : decode cX1_town 55 = .ok (.getfield 118, 3) := dk_180 0 118 (dk_at dksX1_town_2 9 rfl rfl)
theorem dX1_town_58 : decode cX1_town 58 = .ok (.putfield 41, 3) := dk_181 0 41 (dk_at dksX1_town_2 12 rfl rfl)
theorem dX1_town_61 : decode cX1_town 61 = .ok (.aload_n 0, 1) := dk_42 (dk_at dksX1_town_2 15 rfl rfl)
theorem dX1_town_62 : decode cX1_town 62 = .ok (.getfield 19, 3) := dk_180 0 19 (dk_at dksX1_town_2 16 rfl rfl)
theorem dX1_town_65 : decode cX1_town 65 = .ok (.getfield 121, 3) := dk_180 0 121 (dk_at dksX1_town_2 19 rfl rfl)
theorem dX1_town_68 : decode cX1_town 68 = .ok (.iconst 0, 1) := dk_3 (dk_at dksX1_town_2 22 rfl rfl)
theorem dX1_town_69 : decode cX1_town 69 = .ok (.dup2, 1) := dk_92 (dk_at dksX1_town_2 23 rfl rfl)
theorem dX1_town_70 : decode cX1_town 70 = .ok (.iaload, 1) := dk_46 (dk_at dksX1_town_3 0 rfl rfl)
theorem dX1_town_71 : decode cX1_town 71 = .ok (.iconst 1, 1) := dk_4 (dk_at dksX1_town_3 1 rfl rfl)
theorem dX1_town_72 : decode cX1_town 72 = .ok (.iadd, 1) := dk_96 (dk_at dksX1_town_3 2 rfl rfl)
theorem dX1_town_73 : decode cX1_town 73 = .ok (.iastore, 1) := dk_79 (dk_at dksX1_town_3 3 rfl rfl)
theorem dX1_town_74 : decode cX1_town 74 = .ok (.aload_n 2, 1) := dk_44 (dk_at dksX1_town_3 4 rfl rfl)
theorem dX1_town_75 : decode cX1_town 75 = .ok (.getfield 124, 3) := dk_180 0 124 (dk_at dksX1_town_3 5 rfl rfl)
theorem dX1_town_78 : decode cX1_town 78 = .ok (.ireturn, 1) := dk_172 (dk_at dksX1_town_3 8 rfl rfl)
theorem dX1_town_79 : decode cX1_town 79 = .ok (.aload_n 0, 1) := dk_42 (dk_at dksX1_town_3 9 rfl rfl)
theorem dX1_town_80 : decode cX1_town 80 = .ok (.getfield 30, 3) := dk_180 0 30 (dk_at dksX1_town_3 10 rfl rfl)
theorem dX1_town_83 : decode cX1_town 83 = .ok (.aload_n 0, 1) := dk_42 (dk_at dksX1_town_3 13 rfl rfl)
theorem dX1_town_84 : decode cX1_town 84 = .ok (.getfield 10, 3) := dk_180 0 10 (dk_at dksX1_town_3 14 rfl rfl)
theorem dX1_town_87 : decode cX1_town 87 = .ok (.invokevirtual 63, 3) := dk_182 0 63 (dk_at dksX1_town_3 17 rfl rfl)
theorem dX1_town_90 : decode cX1_town 90 = .ok (.aload_n 0, 1) := dk_42 (dk_at dksX1_town_3 20 rfl rfl)
theorem dX1_town_91 : decode cX1_town 91 = .ok (.getfield 19, 3) := dk_180 0 19 (dk_at dksX1_town_3 21 rfl rfl)
theorem dX1_town_94 : decode cX1_town 94 = .ok (.iconst 0, 1) := dk_3 (dk_at dksX1_town_4 0 rfl rfl)
theorem dX1_town_95 : decode cX1_town 95 = .ok (.putfield 127, 3) := dk_181 0 127 (dk_at dksX1_town_4 1 rfl rfl)
theorem dX1_town_98 : decode cX1_town 98 = .ok (.aload_n 0, 1) := dk_42 (dk_at dksX1_town_4 4 rfl rfl)
theorem dX1_town_99 : decode cX1_town 99 = .ok (.getfield 19, 3) := dk_180 0 19 (dk_at dksX1_town_4 5 rfl rfl)
theorem dX1_town_102 : decode cX1_town 102 = .ok (.iconst 0, 1) := dk_3 (dk_at dksX1_town_4 8 rfl rfl)
theorem dX1_town_103 : decode cX1_town 103 = .ok (.putfield 130, 3) := dk_181 0 130 (dk_at dksX1_town_4 9 rfl rfl)
theorem dX1_town_106 : decode cX1_town 106 = .ok (.aload_n 0, 1) := dk_42 (dk_at dksX1_town_4 12 rfl rfl)
theorem dX1_town_107 : decode cX1_town 107 = .ok (.iconst 0, 1) := dk_3 (dk_at dksX1_town_4 13 rfl rfl)
theorem dX1_town_108 : decode cX1_town 108 = .ok (.putfield 133, 3) := dk_181 0 133 (dk_at dksX1_town_4 14 rfl rfl)
theorem dX1_town_111 : decode cX1_town 111 = .ok (.iconst 0, 1) := dk_3 (dk_at dksX1_town_4 17 rfl rfl)
theorem dX1_town_112 : decode cX1_town 112 = .ok (.ireturn, 1) := dk_172 (dk_at dksX1_town_4 18 rfl rfl)
abbrev cX1_right : ByteArray := prog_1_method_2_code
def yX1_right : MethodName := ⟨RX1, "right", "(Z)V"⟩
def dkwX1_right_0 : List UInt8 := [26, 154, 0, 11, 187, 0, 67, 89, 183, 0, 69, 191, 177]
abbrev dktX1_right_0 : List UInt8 := dkwX1_right_0 ++ []
theorem dksX1_right_0 : cX1_right.data.toList.drop 0 = dktX1_right_0 := by decide +kernel
theorem dX1_right_0 : decode cX1_right 0 = .ok (.iload_n 0, 1) := dk_26 (dk_at dksX1_right_0 0 rfl rfl)
theorem dX1_right_1 : decode cX1_right 1 = .ok (.ifCond .ne 11, 3) := dk_154 0 11 (dk_at dksX1_right_0 1 rfl rfl)
theorem dX1_right_4 : decode cX1_right 4 = .ok (.new 67, 3) := dk_187 0 67 (dk_at dksX1_right_0 4 rfl rfl)
theorem dX1_right_7 : decode cX1_right 7 = .ok (.dup, 1) := dk_89 (dk_at dksX1_right_0 7 rfl rfl)
theorem dX1_right_8 : decode cX1_right 8 = .ok (.invokespecial 69, 3) := dk_183 0 69 (dk_at dksX1_right_0 8 rfl rfl)
theorem dX1_right_11 : decode cX1_right 11 = .ok (.athrow, 1) := dk_191 (dk_at dksX1_right_0 11 rfl rfl)
theorem dX1_right_12 : decode cX1_right 12 = .ok (.return_, 1) := dk_177 (dk_at dksX1_right_0 12 rfl rfl)
abbrev cX1_count : ByteArray := prog_1_method_12_code
def yX1_count : MethodName := ⟨RX1, "count", "(I)I"⟩
def dkwX1_count_7 : List UInt8 := [180, 0, 121, 27, 16, 12, 100, 46, 172]
abbrev dktX1_count_7 : List UInt8 := dkwX1_count_7 ++ []
def dkwX1_count_6 : List UInt8 := [180, 0, 19, 180, 0, 127, 172, 42, 180, 0, 19, 180, 0, 130, 172, 42, 180, 0, 98, 172, 42, 180, 0, 19]
abbrev dktX1_count_6 : List UInt8 := dkwX1_count_6 ++ dktX1_count_7
def dkwX1_count_5 : List UInt8 := [172, 42, 180, 0, 30, 42, 180, 0, 10, 182, 0, 158, 172, 42, 180, 0, 30, 180, 0, 161, 172, 42]
abbrev dktX1_count_5 : List UInt8 := dkwX1_count_5 ++ dktX1_count_6
def dkwX1_count_4 : List UInt8 := [167, 0, 4, 3, 172, 42, 180, 0, 30, 42, 180, 0, 10, 182, 0, 151, 172, 42, 180, 0, 30, 180, 0, 155]
abbrev dktX1_count_4 : List UInt8 := dkwX1_count_4 ++ dktX1_count_5
def dkwX1_count_3 : List UInt8 := [180, 0, 10, 180, 0, 144, 172, 42, 180, 0, 30, 42, 180, 0, 10, 182, 0, 147, 153, 0, 7, 4]
abbrev dktX1_count_3 : List UInt8 := dkwX1_count_3 ++ dktX1_count_4
def dkwX1_count_2 : List UInt8 := [42, 182, 0, 83, 172, 42, 180, 0, 30, 180, 0, 95, 172, 42, 180, 0, 10, 180, 0, 141, 172, 42]
abbrev dktX1_count_2 : List UInt8 := dkwX1_count_2 ++ dktX1_count_3
def dkwX1_count_1 : List UInt8 := [170, 0, 0, 0, 171, 0, 0, 0, 0, 0, 0, 0, 11, 0, 0, 0, 61, 0, 0, 0, 66, 0, 0, 0, 74, 0, 0, 0, 82, 0, 0, 0, 90, 0, 0, 0, 110, 0, 0, 0, 122, 0, 0, 0, 130, 0, 0, 0, 142, 0, 0, 0, 150, 0, 0, 0, 158, 0, 0, 0, 166]
abbrev dktX1_count_1 : List UInt8 := dkwX1_count_1 ++ dktX1_count_2
def dkwX1_count_0 : List UInt8 := [27, 3, 16, 14, 184, 0, 137, 184, 0, 85, 27]
abbrev dktX1_count_0 : List UInt8 := dkwX1_count_0 ++ dktX1_count_1
theorem dksX1_count_0 : cX1_count.data.toList.drop 0 = dktX1_count_0 := by decide +kernel
theorem dksX1_count_1 : cX1_count.data.toList.drop 11 = dktX1_count_1 := dk_seg dksX1_count_0 11 rfl rfl
theorem dksX1_count_2 : cX1_count.data.toList.drop 72 = dktX1_count_2 := dk_seg dksX1_count_1 61 rfl rfl
theorem dksX1_count_3 : cX1_count.data.toList.drop 94 = dktX1_count_3 := dk_seg dksX1_count_2 22 rfl rfl
theorem dksX1_count_4 : cX1_count.data.toList.drop 116 = dktX1_count_4 := dk_seg dksX1_count_3 22 rfl rfl
theorem dksX1_count_5 : cX1_count.data.toList.drop 140 = dktX1_count_5 := dk_seg dksX1_count_4 24 rfl rfl
theorem dksX1_count_6 : cX1_count.data.toList.drop 162 = dktX1_count_6 := dk_seg dksX1_count_5 22 rfl rfl
theorem dksX1_count_7 : cX1_count.data.toList.drop 186 = dktX1_count_7 := dk_seg dksX1_count_6 24 rfl rfl
theorem dX1_count_0 : decode cX1_count 0 = .ok (.iload_n 1, 1) := dk_27 (dk_at dksX1_count_0 0 rfl rfl)
theorem dX1_count_1 : decode cX1_count 1 = .ok (.iconst 0, 1) := dk_3 (dk_at dksX1_count_0 1 rfl rfl)
theorem dX1_count_2 : decode cX1_count 2 = .ok (.bipush 14, 2) := dk_16 14 (dk_at dksX1_count_0 2 rfl rfl)
theorem dX1_count_4 : decode cX1_count 4 = .ok (.invokestatic 137, 3) := dk_184 0 137 (dk_at dksX1_count_0 4 rfl rfl)
theorem dX1_count_7 : decode cX1_count 7 = .ok (.invokestatic 85, 3) := dk_184 0 85 (dk_at dksX1_count_0 7 rfl rfl)
theorem dX1_count_10 : decode cX1_count 10 = .ok (.iload_n 1, 1) := dk_27 (dk_at dksX1_count_0 10 rfl rfl)
theorem dX1_count_11 : decode cX1_count 11 = .ok (.tableswitch 171 0 11 #[61, 66, 74, 82, 90, 110, 122, 130, 142, 150, 158, 166], 61) := by decide +kernel
theorem dX1_count_72 : decode cX1_count 72 = .ok (.aload_n 0, 1) := dk_42 (dk_at dksX1_count_2 0 rfl rfl)
theorem dX1_count_73 : decode cX1_count 73 = .ok (.invokevirtual 83, 3) := dk_182 0 83 (dk_at dksX1_count_2 1 rfl rfl)
theorem dX1_count_76 : decode cX1_count 76 = .ok (.ireturn, 1) := dk_172 (dk_at dksX1_count_2 4 rfl rfl)
theorem dX1_count_77 : decode cX1_count 77 = .ok (.aload_n 0, 1) := dk_42 (dk_at dksX1_count_2 5 rfl rfl)
theorem dX1_count_78 : decode cX1_count 78 = .ok (.getfield 30, 3) := dk_180 0 30 (dk_at dksX1_count_2 6 rfl rfl)
theorem dX1_count_81 : decode cX1_count 81 = .ok (.getfield 95, 3) := dk_180 0 95 (dk_at dksX1_count_2 9 rfl rfl)
theorem dX1_count_84 : decode cX1_count 84 = .ok (.ireturn, 1) := dk_172 (dk_at dksX1_count_2 12 rfl rfl)
theorem dX1_count_85 : decode cX1_count 85 = .ok (.aload_n 0, 1) := dk_42 (dk_at dksX1_count_2 13 rfl rfl)
theorem dX1_count_86 : decode cX1_count 86 = .ok (.getfield 10, 3) := dk_180 0 10 (dk_at dksX1_count_2 14 rfl rfl)
theorem dX1_count_89 : decode cX1_count 89 = .ok (.getfield 141, 3) := dk_180 0 141 (dk_at dksX1_count_2 17 rfl rfl)
theorem dX1_count_92 : decode cX1_count 92 = .ok (.ireturn, 1) := dk_172 (dk_at dksX1_count_2 20 rfl rfl)
theorem dX1_count_93 : decode cX1_count 93 = .ok (.aload_n 0, 1) := dk_42 (dk_at dksX1_count_2 21 rfl rfl)
theorem dX1_count_94 : decode cX1_count 94 = .ok (.getfield 10, 3) := dk_180 0 10 (dk_at dksX1_count_3 0 rfl rfl)
theorem dX1_count_97 : decode cX1_count 97 = .ok (.getfield 144, 3) := dk_180 0 144 (dk_at dksX1_count_3 3 rfl rfl)
theorem dX1_count_100 : decode cX1_count 100 = .ok (.ireturn, 1) := dk_172 (dk_at dksX1_count_3 6 rfl rfl)
theorem dX1_count_101 : decode cX1_count 101 = .ok (.aload_n 0, 1) := dk_42 (dk_at dksX1_count_3 7 rfl rfl)
theorem dX1_count_102 : decode cX1_count 102 = .ok (.getfield 30, 3) := dk_180 0 30 (dk_at dksX1_count_3 8 rfl rfl)
theorem dX1_count_105 : decode cX1_count 105 = .ok (.aload_n 0, 1) := dk_42 (dk_at dksX1_count_3 11 rfl rfl)
theorem dX1_count_106 : decode cX1_count 106 = .ok (.getfield 10, 3) := dk_180 0 10 (dk_at dksX1_count_3 12 rfl rfl)
theorem dX1_count_109 : decode cX1_count 109 = .ok (.invokevirtual 147, 3) := dk_182 0 147 (dk_at dksX1_count_3 15 rfl rfl)
theorem dX1_count_112 : decode cX1_count 112 = .ok (.ifCond .eq 7, 3) := dk_153 0 7 (dk_at dksX1_count_3 18 rfl rfl)
theorem dX1_count_115 : decode cX1_count 115 = .ok (.iconst 1, 1) := dk_4 (dk_at dksX1_count_3 21 rfl rfl)
theorem dX1_count_116 : decode cX1_count 116 = .ok (.goto 4, 3) := dk_167 0 4 (dk_at dksX1_count_4 0 rfl rfl)
theorem dX1_count_119 : decode cX1_count 119 = .ok (.iconst 0, 1) := dk_3 (dk_at dksX1_count_4 3 rfl rfl)
theorem dX1_count_120 : decode cX1_count 120 = .ok (.ireturn, 1) := dk_172 (dk_at dksX1_count_4 4 rfl rfl)
theorem dX1_count_121 : decode cX1_count 121 = .ok (.aload_n 0, 1) := dk_42 (dk_at dksX1_count_4 5 rfl rfl)
theorem dX1_count_122 : decode cX1_count 122 = .ok (.getfield 30, 3) := dk_180 0 30 (dk_at dksX1_count_4 6 rfl rfl)
theorem dX1_count_125 : decode cX1_count 125 = .ok (.aload_n 0, 1) := dk_42 (dk_at dksX1_count_4 9 rfl rfl)
theorem dX1_count_126 : decode cX1_count 126 = .ok (.getfield 10, 3) := dk_180 0 10 (dk_at dksX1_count_4 10 rfl rfl)
theorem dX1_count_129 : decode cX1_count 129 = .ok (.invokevirtual 151, 3) := dk_182 0 151 (dk_at dksX1_count_4 13 rfl rfl)
theorem dX1_count_132 : decode cX1_count 132 = .ok (.ireturn, 1) := dk_172 (dk_at dksX1_count_4 16 rfl rfl)
theorem dX1_count_133 : decode cX1_count 133 = .ok (.aload_n 0, 1) := dk_42 (dk_at dksX1_count_4 17 rfl rfl)
theorem dX1_count_134 : decode cX1_count 134 = .ok (.getfield 30, 3) := dk_180 0 30 (dk_at dksX1_count_4 18 rfl rfl)
theorem dX1_count_137 : decode cX1_count 137 = .ok (.getfield 155, 3) := dk_180 0 155 (dk_at dksX1_count_4 21 rfl rfl)
theorem dX1_count_140 : decode cX1_count 140 = .ok (.ireturn, 1) := dk_172 (dk_at dksX1_count_5 0 rfl rfl)
theorem dX1_count_141 : decode cX1_count 141 = .ok (.aload_n 0, 1) := dk_42 (dk_at dksX1_count_5 1 rfl rfl)
theorem dX1_count_142 : decode cX1_count 142 = .ok (.getfield 30, 3) := dk_180 0 30 (dk_at dksX1_count_5 2 rfl rfl)
theorem dX1_count_145 : decode cX1_count 145 = .ok (.aload_n 0, 1) := dk_42 (dk_at dksX1_count_5 5 rfl rfl)
theorem dX1_count_146 : decode cX1_count 146 = .ok (.getfield 10, 3) := dk_180 0 10 (dk_at dksX1_count_5 6 rfl rfl)
theorem dX1_count_149 : decode cX1_count 149 = .ok (.invokevirtual 158, 3) := dk_182 0 158 (dk_at dksX1_count_5 9 rfl rfl)
theorem dX1_count_152 : decode cX1_count 152 = .ok (.ireturn, 1) := dk_172 (dk_at dksX1_count_5 12 rfl rfl)
theorem dX1_count_153 : decode cX1_count 153 = .ok (.aload_n 0, 1) := dk_42 (dk_at dksX1_count_5 13 rfl rfl)
theorem dX1_count_154 : decode cX1_count 154 = .ok (.getfield 30, 3) := dk_180 0 30 (dk_at dksX1_count_5 14 rfl rfl)
theorem dX1_count_157 : decode cX1_count 157 = .ok (.getfield 161, 3) := dk_180 0 161 (dk_at dksX1_count_5 17 rfl rfl)
theorem dX1_count_160 : decode cX1_count 160 = .ok (.ireturn, 1) := dk_172 (dk_at dksX1_count_5 20 rfl rfl)
theorem dX1_count_161 : decode cX1_count 161 = .ok (.aload_n 0, 1) := dk_42 (dk_at dksX1_count_5 21 rfl rfl)
theorem dX1_count_162 : decode cX1_count 162 = .ok (.getfield 19, 3) := dk_180 0 19 (dk_at dksX1_count_6 0 rfl rfl)
theorem dX1_count_165 : decode cX1_count 165 = .ok (.getfield 127, 3) := dk_180 0 127 (dk_at dksX1_count_6 3 rfl rfl)
theorem dX1_count_168 : decode cX1_count 168 = .ok (.ireturn, 1) := dk_172 (dk_at dksX1_count_6 6 rfl rfl)
theorem dX1_count_169 : decode cX1_count 169 = .ok (.aload_n 0, 1) := dk_42 (dk_at dksX1_count_6 7 rfl rfl)
theorem dX1_count_170 : decode cX1_count 170 = .ok (.getfield 19, 3) := dk_180 0 19 (dk_at dksX1_count_6 8 rfl rfl)
theorem dX1_count_173 : decode cX1_count 173 = .ok (.getfield 130, 3) := dk_180 0 130 (dk_at dksX1_count_6 11 rfl rfl)
theorem dX1_count_176 : decode cX1_count 176 = .ok (.ireturn, 1) := dk_172 (dk_at dksX1_count_6 14 rfl rfl)
theorem dX1_count_177 : decode cX1_count 177 = .ok (.aload_n 0, 1) := dk_42 (dk_at dksX1_count_6 15 rfl rfl)
theorem dX1_count_178 : decode cX1_count 178 = .ok (.getfield 98, 3) := dk_180 0 98 (dk_at dksX1_count_6 16 rfl rfl)
theorem dX1_count_181 : decode cX1_count 181 = .ok (.ireturn, 1) := dk_172 (dk_at dksX1_count_6 19 rfl rfl)
theorem dX1_count_182 : decode cX1_count 182 = .ok (.aload_n 0, 1) := dk_42 (dk_at dksX1_count_6 20 rfl rfl)
theorem dX1_count_183 : decode cX1_count 183 = .ok (.getfield 19, 3) := dk_180 0 19 (dk_at dksX1_count_6 21 rfl rfl)
theorem dX1_count_186 : decode cX1_count 186 = .ok (.getfield 121, 3) := dk_180 0 121 (dk_at dksX1_count_7 0 rfl rfl)
theorem dX1_count_189 : decode cX1_count 189 = .ok (.iload_n 1, 1) := dk_27 (dk_at dksX1_count_7 3 rfl rfl)
theorem dX1_count_190 : decode cX1_count 190 = .ok (.bipush 12, 2) := dk_16 12 (dk_at dksX1_count_7 4 rfl rfl)
theorem dX1_count_192 : decode cX1_count 192 = .ok (.isub, 1) := dk_100 (dk_at dksX1_count_7 6 rfl rfl)
theorem dX1_count_193 : decode cX1_count 193 = .ok (.iaload, 1) := dk_46 (dk_at dksX1_count_7 7 rfl rfl)
theorem dX1_count_194 : decode cX1_count 194 = .ok (.ireturn, 1) := dk_172 (dk_at dksX1_count_7 8 rfl rfl)
abbrev cX1_there : ByteArray := prog_1_method_3_code
def yX1_there : MethodName := ⟨RX1, "there", "(Z)V"⟩
def dkwX1_there_0 : List UInt8 := [26, 154, 0, 11, 187, 0, 70, 89, 183, 0, 72, 191, 177]
abbrev dktX1_there_0 : List UInt8 := dkwX1_there_0 ++ []
theorem dksX1_there_0 : cX1_there.data.toList.drop 0 = dktX1_there_0 := by decide +kernel
theorem dX1_there_0 : decode cX1_there 0 = .ok (.iload_n 0, 1) := dk_26 (dk_at dksX1_there_0 0 rfl rfl)
theorem dX1_there_1 : decode cX1_there 1 = .ok (.ifCond .ne 11, 3) := dk_154 0 11 (dk_at dksX1_there_0 1 rfl rfl)
theorem dX1_there_4 : decode cX1_there 4 = .ok (.new 70, 3) := dk_187 0 70 (dk_at dksX1_there_0 4 rfl rfl)
theorem dX1_there_7 : decode cX1_there 7 = .ok (.dup, 1) := dk_89 (dk_at dksX1_there_0 7 rfl rfl)
theorem dX1_there_8 : decode cX1_there 8 = .ok (.invokespecial 72, 3) := dk_183 0 72 (dk_at dksX1_there_0 8 rfl rfl)
theorem dX1_there_11 : decode cX1_there 11 = .ok (.athrow, 1) := dk_191 (dk_at dksX1_there_0 11 rfl rfl)
theorem dX1_there_12 : decode cX1_there 12 = .ok (.return_, 1) := dk_177 (dk_at dksX1_there_0 12 rfl rfl)
abbrev cX1_table : ByteArray := prog_1_method_13_code
def yX1_table : MethodName := ⟨RX1, "table", "(II)I"⟩
def dkwX1_table_4 : List UInt8 := [42, 180, 0, 30, 180, 0, 186, 27, 46, 172, 42, 180, 0, 30, 27, 182, 0, 189, 172]
abbrev dktX1_table_4 : List UInt8 := dkwX1_table_4 ++ []
def dkwX1_table_3 : List UInt8 := [180, 0, 30, 180, 0, 177, 27, 46, 172, 45, 180, 0, 180, 172, 42, 180, 0, 30, 180, 0, 183, 27, 46, 172]
abbrev dktX1_table_3 : List UInt8 := dkwX1_table_3 ++ dktX1_table_4
def dkwX1_table_2 : List UInt8 := [45, 182, 0, 168, 172, 45, 180, 0, 170, 172, 45, 42, 180, 0, 30, 180, 0, 161, 182, 0, 173, 172, 42]
abbrev dktX1_table_2 : List UInt8 := dkwX1_table_2 ++ dktX1_table_3
def dkwX1_table_1 : List UInt8 := [170, 0, 0, 0, 0, 0, 100, 0, 0, 0, 0, 0, 0, 0, 6, 0, 0, 0, 43, 0, 0, 0, 48, 0, 0, 0, 53, 0, 0, 0, 65, 0, 0, 0, 75, 0, 0, 0, 80, 0, 0, 0, 90]
abbrev dktX1_table_1 : List UInt8 := dkwX1_table_1 ++ dktX1_table_2
def dkwX1_table_0 : List UInt8 := [42, 27, 182, 0, 164, 78, 28, 3, 16, 7, 184, 0, 137, 184, 0, 85, 28]
abbrev dktX1_table_0 : List UInt8 := dkwX1_table_0 ++ dktX1_table_1
theorem dksX1_table_0 : cX1_table.data.toList.drop 0 = dktX1_table_0 := by decide +kernel
theorem dksX1_table_1 : cX1_table.data.toList.drop 17 = dktX1_table_1 := dk_seg dksX1_table_0 17 rfl rfl
theorem dksX1_table_2 : cX1_table.data.toList.drop 60 = dktX1_table_2 := dk_seg dksX1_table_1 43 rfl rfl
theorem dksX1_table_3 : cX1_table.data.toList.drop 83 = dktX1_table_3 := dk_seg dksX1_table_2 23 rfl rfl
theorem dksX1_table_4 : cX1_table.data.toList.drop 107 = dktX1_table_4 := dk_seg dksX1_table_3 24 rfl rfl
theorem dX1_table_0 : decode cX1_table 0 = .ok (.aload_n 0, 1) := dk_42 (dk_at dksX1_table_0 0 rfl rfl)
theorem dX1_table_1 : decode cX1_table 1 = .ok (.iload_n 1, 1) := dk_27 (dk_at dksX1_table_0 1 rfl rfl)
theorem dX1_table_2 : decode cX1_table 2 = .ok (.invokevirtual 164, 3) := dk_182 0 164 (dk_at dksX1_table_0 2 rfl rfl)
theorem dX1_table_5 : decode cX1_table 5 = .ok (.astore_n 3, 1) := dk_78 (dk_at dksX1_table_0 5 rfl rfl)
theorem dX1_table_6 : decode cX1_table 6 = .ok (.iload_n 2, 1) := dk_28 (dk_at dksX1_table_0 6 rfl rfl)
theorem dX1_table_7 : decode cX1_table 7 = .ok (.iconst 0, 1) := dk_3 (dk_at dksX1_table_0 7 rfl rfl)
theorem dX1_table_8 : decode cX1_table 8 = .ok (.bipush 7, 2) := dk_16 7 (dk_at dksX1_table_0 8 rfl rfl)
theorem dX1_table_10 : decode cX1_table 10 = .ok (.invokestatic 137, 3) := dk_184 0 137 (dk_at dksX1_table_0 10 rfl rfl)
theorem dX1_table_13 : decode cX1_table 13 = .ok (.invokestatic 85, 3) := dk_184 0 85 (dk_at dksX1_table_0 13 rfl rfl)
theorem dX1_table_16 : decode cX1_table 16 = .ok (.iload_n 2, 1) := dk_28 (dk_at dksX1_table_0 16 rfl rfl)
theorem dX1_table_17 : decode cX1_table 17 = .ok (.tableswitch 100 0 6 #[43, 48, 53, 65, 75, 80, 90], 43) := by decide +kernel
theorem dX1_table_60 : decode cX1_table 60 = .ok (.aload_n 3, 1) := dk_45 (dk_at dksX1_table_2 0 rfl rfl)
theorem dX1_table_61 : decode cX1_table 61 = .ok (.invokevirtual 168, 3) := dk_182 0 168 (dk_at dksX1_table_2 1 rfl rfl)
theorem dX1_table_64 : decode cX1_table 64 = .ok (.ireturn, 1) := dk_172 (dk_at dksX1_table_2 4 rfl rfl)
theorem dX1_table_65 : decode cX1_table 65 = .ok (.aload_n 3, 1) := dk_45 (dk_at dksX1_table_2 5 rfl rfl)
theorem dX1_table_66 : decode cX1_table 66 = .ok (.getfield 170, 3) := dk_180 0 170 (dk_at dksX1_table_2 6 rfl rfl)
theorem dX1_table_69 : decode cX1_table 69 = .ok (.ireturn, 1) := dk_172 (dk_at dksX1_table_2 9 rfl rfl)
theorem dX1_table_70 : decode cX1_table 70 = .ok (.aload_n 3, 1) := dk_45 (dk_at dksX1_table_2 10 rfl rfl)
theorem dX1_table_71 : decode cX1_table 71 = .ok (.aload_n 0, 1) := dk_42 (dk_at dksX1_table_2 11 rfl rfl)
theorem dX1_table_72 : decode cX1_table 72 = .ok (.getfield 30, 3) := dk_180 0 30 (dk_at dksX1_table_2 12 rfl rfl)
theorem dX1_table_75 : decode cX1_table 75 = .ok (.getfield 161, 3) := dk_180 0 161 (dk_at dksX1_table_2 15 rfl rfl)
theorem dX1_table_78 : decode cX1_table 78 = .ok (.invokevirtual 173, 3) := dk_182 0 173 (dk_at dksX1_table_2 18 rfl rfl)
theorem dX1_table_81 : decode cX1_table 81 = .ok (.ireturn, 1) := dk_172 (dk_at dksX1_table_2 21 rfl rfl)
theorem dX1_table_82 : decode cX1_table 82 = .ok (.aload_n 0, 1) := dk_42 (dk_at dksX1_table_2 22 rfl rfl)
theorem dX1_table_83 : decode cX1_table 83 = .ok (.getfield 30, 3) := dk_180 0 30 (dk_at dksX1_table_3 0 rfl rfl)
theorem dX1_table_86 : decode cX1_table 86 = .ok (.getfield 177, 3) := dk_180 0 177 (dk_at dksX1_table_3 3 rfl rfl)
theorem dX1_table_89 : decode cX1_table 89 = .ok (.iload_n 1, 1) := dk_27 (dk_at dksX1_table_3 6 rfl rfl)
theorem dX1_table_90 : decode cX1_table 90 = .ok (.iaload, 1) := dk_46 (dk_at dksX1_table_3 7 rfl rfl)
theorem dX1_table_91 : decode cX1_table 91 = .ok (.ireturn, 1) := dk_172 (dk_at dksX1_table_3 8 rfl rfl)
theorem dX1_table_92 : decode cX1_table 92 = .ok (.aload_n 3, 1) := dk_45 (dk_at dksX1_table_3 9 rfl rfl)
theorem dX1_table_93 : decode cX1_table 93 = .ok (.getfield 180, 3) := dk_180 0 180 (dk_at dksX1_table_3 10 rfl rfl)
theorem dX1_table_96 : decode cX1_table 96 = .ok (.ireturn, 1) := dk_172 (dk_at dksX1_table_3 13 rfl rfl)
theorem dX1_table_97 : decode cX1_table 97 = .ok (.aload_n 0, 1) := dk_42 (dk_at dksX1_table_3 14 rfl rfl)
theorem dX1_table_98 : decode cX1_table 98 = .ok (.getfield 30, 3) := dk_180 0 30 (dk_at dksX1_table_3 15 rfl rfl)
theorem dX1_table_101 : decode cX1_table 101 = .ok (.getfield 183, 3) := dk_180 0 183 (dk_at dksX1_table_3 18 rfl rfl)
theorem dX1_table_104 : decode cX1_table 104 = .ok (.iload_n 1, 1) := dk_27 (dk_at dksX1_table_3 21 rfl rfl)
theorem dX1_table_105 : decode cX1_table 105 = .ok (.iaload, 1) := dk_46 (dk_at dksX1_table_3 22 rfl rfl)
theorem dX1_table_106 : decode cX1_table 106 = .ok (.ireturn, 1) := dk_172 (dk_at dksX1_table_3 23 rfl rfl)
theorem dX1_table_107 : decode cX1_table 107 = .ok (.aload_n 0, 1) := dk_42 (dk_at dksX1_table_4 0 rfl rfl)
theorem dX1_table_108 : decode cX1_table 108 = .ok (.getfield 30, 3) := dk_180 0 30 (dk_at dksX1_table_4 1 rfl rfl)
theorem dX1_table_111 : decode cX1_table 111 = .ok (.getfield 186, 3) := dk_180 0 186 (dk_at dksX1_table_4 4 rfl rfl)
theorem dX1_table_114 : decode cX1_table 114 = .ok (.iload_n 1, 1) := dk_27 (dk_at dksX1_table_4 7 rfl rfl)
theorem dX1_table_115 : decode cX1_table 115 = .ok (.iaload, 1) := dk_46 (dk_at dksX1_table_4 8 rfl rfl)
theorem dX1_table_116 : decode cX1_table 116 = .ok (.ireturn, 1) := dk_172 (dk_at dksX1_table_4 9 rfl rfl)
theorem dX1_table_117 : decode cX1_table 117 = .ok (.aload_n 0, 1) := dk_42 (dk_at dksX1_table_4 10 rfl rfl)
theorem dX1_table_118 : decode cX1_table 118 = .ok (.getfield 30, 3) := dk_180 0 30 (dk_at dksX1_table_4 11 rfl rfl)
theorem dX1_table_121 : decode cX1_table 121 = .ok (.iload_n 1, 1) := dk_27 (dk_at dksX1_table_4 14 rfl rfl)
theorem dX1_table_122 : decode cX1_table 122 = .ok (.invokevirtual 189, 3) := dk_182 0 189 (dk_at dksX1_table_4 15 rfl rfl)
theorem dX1_table_125 : decode cX1_table 125 = .ok (.ireturn, 1) := dk_172 (dk_at dksX1_table_4 18 rfl rfl)
abbrev cX1_tableAt : ByteArray := prog_1_method_6_code
def yX1_tableAt : MethodName := ⟨RX1, "tableAt", "(I)LTableTower$Pine;"⟩
def dkwX1_tableAt_1 : List UInt8 := [180, 0, 73, 27, 182, 0, 89, 192, 0, 93, 176]
abbrev dktX1_tableAt_1 : List UInt8 := dkwX1_tableAt_1 ++ []
def dkwX1_tableAt_0 : List UInt8 := [27, 155, 0, 15, 27, 42, 182, 0, 83, 162, 0, 7, 4, 167, 0, 4, 3, 184, 0, 85, 42, 180, 0, 10]
abbrev dktX1_tableAt_0 : List UInt8 := dkwX1_tableAt_0 ++ dktX1_tableAt_1
theorem dksX1_tableAt_0 : cX1_tableAt.data.toList.drop 0 = dktX1_tableAt_0 := by decide +kernel
theorem dksX1_tableAt_1 : cX1_tableAt.data.toList.drop 24 = dktX1_tableAt_1 := dk_seg dksX1_tableAt_0 24 rfl rfl
theorem dX1_tableAt_0 : decode cX1_tableAt 0 = .ok (.iload_n 1, 1) := dk_27 (dk_at dksX1_tableAt_0 0 rfl rfl)
theorem dX1_tableAt_1 : decode cX1_tableAt 1 = .ok (.ifCond .lt 15, 3) := dk_155 0 15 (dk_at dksX1_tableAt_0 1 rfl rfl)
theorem dX1_tableAt_4 : decode cX1_tableAt 4 = .ok (.iload_n 1, 1) := dk_27 (dk_at dksX1_tableAt_0 4 rfl rfl)
theorem dX1_tableAt_5 : decode cX1_tableAt 5 = .ok (.aload_n 0, 1) := dk_42 (dk_at dksX1_tableAt_0 5 rfl rfl)
theorem dX1_tableAt_6 : decode cX1_tableAt 6 = .ok (.invokevirtual 83, 3) := dk_182 0 83 (dk_at dksX1_tableAt_0 6 rfl rfl)
theorem dX1_tableAt_9 : decode cX1_tableAt 9 = .ok (.if_icmp .ge 7, 3) := dk_162 0 7 (dk_at dksX1_tableAt_0 9 rfl rfl)
theorem dX1_tableAt_12 : decode cX1_tableAt 12 = .ok (.iconst 1, 1) := dk_4 (dk_at dksX1_tableAt_0 12 rfl rfl)
theorem dX1_tableAt_13 : decode cX1_tableAt 13 = .ok (.goto 4, 3) := dk_167 0 4 (dk_at dksX1_tableAt_0 13 rfl rfl)
theorem dX1_tableAt_16 : decode cX1_tableAt 16 = .ok (.iconst 0, 1) := dk_3 (dk_at dksX1_tableAt_0 16 rfl rfl)
theorem dX1_tableAt_17 : decode cX1_tableAt 17 = .ok (.invokestatic 85, 3) := dk_184 0 85 (dk_at dksX1_tableAt_0 17 rfl rfl)
theorem dX1_tableAt_20 : decode cX1_tableAt 20 = .ok (.aload_n 0, 1) := dk_42 (dk_at dksX1_tableAt_0 20 rfl rfl)
theorem dX1_tableAt_21 : decode cX1_tableAt 21 = .ok (.getfield 10, 3) := dk_180 0 10 (dk_at dksX1_tableAt_0 21 rfl rfl)
theorem dX1_tableAt_24 : decode cX1_tableAt 24 = .ok (.getfield 73, 3) := dk_180 0 73 (dk_at dksX1_tableAt_1 0 rfl rfl)
theorem dX1_tableAt_27 : decode cX1_tableAt 27 = .ok (.iload_n 1, 1) := dk_27 (dk_at dksX1_tableAt_1 3 rfl rfl)
theorem dX1_tableAt_28 : decode cX1_tableAt 28 = .ok (.invokevirtual 89, 3) := dk_182 0 89 (dk_at dksX1_tableAt_1 4 rfl rfl)
theorem dX1_tableAt_31 : decode cX1_tableAt 31 = .ok (.checkcast 93, 3) := dk_192 0 93 (dk_at dksX1_tableAt_1 7 rfl rfl)
theorem dX1_tableAt_34 : decode cX1_tableAt 34 = .ok (.areturn, 1) := dk_176 (dk_at dksX1_tableAt_1 10 rfl rfl)
abbrev cX1_level : ByteArray := prog_1_method_14_code
def yX1_level : MethodName := ⟨RX1, "level", "(II)I"⟩
def dkwX1_level_4 : List UInt8 := [172, 42, 180, 0, 30, 42, 180, 0, 10, 27, 182, 0, 208, 153, 0, 7, 4, 167, 0, 4, 3, 172]
abbrev dktX1_level_4 : List UInt8 := dkwX1_level_4 ++ []
def dkwX1_level_3 : List UInt8 := [180, 0, 30, 42, 180, 0, 10, 27, 182, 0, 202, 172, 42, 180, 0, 30, 42, 180, 0, 10, 27, 182, 0, 205]
abbrev dktX1_level_3 : List UInt8 := dkwX1_level_3 ++ dktX1_level_4
def dkwX1_level_2 : List UInt8 := [42, 180, 0, 30, 180, 0, 195, 27, 46, 172, 42, 180, 0, 30, 42, 180, 0, 10, 27, 182, 0, 198, 172, 42]
abbrev dktX1_level_2 : List UInt8 := dkwX1_level_2 ++ dktX1_level_3
def dkwX1_level_1 : List UInt8 := [170, 0, 0, 0, 78, 0, 0, 0, 0, 0, 0, 0, 3, 0, 0, 0, 29, 0, 0, 0, 39, 0, 0, 0, 52, 0, 0, 0, 65]
abbrev dktX1_level_1 : List UInt8 := dkwX1_level_1 ++ dktX1_level_2
def dkwX1_level_0 : List UInt8 := [42, 27, 182, 0, 192, 28, 3, 7, 184, 0, 137, 184, 0, 85, 28]
abbrev dktX1_level_0 : List UInt8 := dkwX1_level_0 ++ dktX1_level_1
theorem dksX1_level_0 : cX1_level.data.toList.drop 0 = dktX1_level_0 := by decide +kernel
theorem dksX1_level_1 : cX1_level.data.toList.drop 15 = dktX1_level_1 := dk_seg dksX1_level_0 15 rfl rfl
theorem dksX1_level_2 : cX1_level.data.toList.drop 44 = dktX1_level_2 := dk_seg dksX1_level_1 29 rfl rfl
theorem dksX1_level_3 : cX1_level.data.toList.drop 68 = dktX1_level_3 := dk_seg dksX1_level_2 24 rfl rfl
theorem dksX1_level_4 : cX1_level.data.toList.drop 92 = dktX1_level_4 := dk_seg dksX1_level_3 24 rfl rfl
theorem dX1_level_0 : decode cX1_level 0 = .ok (.aload_n 0, 1) := dk_42 (dk_at dksX1_level_0 0 rfl rfl)
theorem dX1_level_1 : decode cX1_level 1 = .ok (.iload_n 1, 1) := dk_27 (dk_at dksX1_level_0 1 rfl rfl)
theorem dX1_level_2 : decode cX1_level 2 = .ok (.invokevirtual 192, 3) := dk_182 0 192 (dk_at dksX1_level_0 2 rfl rfl)
theorem dX1_level_5 : decode cX1_level 5 = .ok (.iload_n 2, 1) := dk_28 (dk_at dksX1_level_0 5 rfl rfl)
theorem dX1_level_6 : decode cX1_level 6 = .ok (.iconst 0, 1) := dk_3 (dk_at dksX1_level_0 6 rfl rfl)
theorem dX1_level_7 : decode cX1_level 7 = .ok (.iconst 4, 1) := dk_7 (dk_at dksX1_level_0 7 rfl rfl)
theorem dX1_level_8 : decode cX1_level 8 = .ok (.invokestatic 137, 3) := dk_184 0 137 (dk_at dksX1_level_0 8 rfl rfl)
theorem dX1_level_11 : decode cX1_level 11 = .ok (.invokestatic 85, 3) := dk_184 0 85 (dk_at dksX1_level_0 11 rfl rfl)
theorem dX1_level_14 : decode cX1_level 14 = .ok (.iload_n 2, 1) := dk_28 (dk_at dksX1_level_0 14 rfl rfl)
theorem dX1_level_15 : decode cX1_level 15 = .ok (.tableswitch 78 0 3 #[29, 39, 52, 65], 29) := by decide +kernel
theorem dX1_level_44 : decode cX1_level 44 = .ok (.aload_n 0, 1) := dk_42 (dk_at dksX1_level_2 0 rfl rfl)
theorem dX1_level_45 : decode cX1_level 45 = .ok (.getfield 30, 3) := dk_180 0 30 (dk_at dksX1_level_2 1 rfl rfl)
theorem dX1_level_48 : decode cX1_level 48 = .ok (.getfield 195, 3) := dk_180 0 195 (dk_at dksX1_level_2 4 rfl rfl)
theorem dX1_level_51 : decode cX1_level 51 = .ok (.iload_n 1, 1) := dk_27 (dk_at dksX1_level_2 7 rfl rfl)
theorem dX1_level_52 : decode cX1_level 52 = .ok (.iaload, 1) := dk_46 (dk_at dksX1_level_2 8 rfl rfl)
theorem dX1_level_53 : decode cX1_level 53 = .ok (.ireturn, 1) := dk_172 (dk_at dksX1_level_2 9 rfl rfl)
theorem dX1_level_54 : decode cX1_level 54 = .ok (.aload_n 0, 1) := dk_42 (dk_at dksX1_level_2 10 rfl rfl)
theorem dX1_level_55 : decode cX1_level 55 = .ok (.getfield 30, 3) := dk_180 0 30 (dk_at dksX1_level_2 11 rfl rfl)
theorem dX1_level_58 : decode cX1_level 58 = .ok (.aload_n 0, 1) := dk_42 (dk_at dksX1_level_2 14 rfl rfl)
theorem dX1_level_59 : decode cX1_level 59 = .ok (.getfield 10, 3) := dk_180 0 10 (dk_at dksX1_level_2 15 rfl rfl)
theorem dX1_level_62 : decode cX1_level 62 = .ok (.iload_n 1, 1) := dk_27 (dk_at dksX1_level_2 18 rfl rfl)
theorem dX1_level_63 : decode cX1_level 63 = .ok (.invokevirtual 198, 3) := dk_182 0 198 (dk_at dksX1_level_2 19 rfl rfl)
theorem dX1_level_66 : decode cX1_level 66 = .ok (.ireturn, 1) := dk_172 (dk_at dksX1_level_2 22 rfl rfl)
theorem dX1_level_67 : decode cX1_level 67 = .ok (.aload_n 0, 1) := dk_42 (dk_at dksX1_level_2 23 rfl rfl)
theorem dX1_level_68 : decode cX1_level 68 = .ok (.getfield 30, 3) := dk_180 0 30 (dk_at dksX1_level_3 0 rfl rfl)
theorem dX1_level_71 : decode cX1_level 71 = .ok (.aload_n 0, 1) := dk_42 (dk_at dksX1_level_3 3 rfl rfl)
theorem dX1_level_72 : decode cX1_level 72 = .ok (.getfield 10, 3) := dk_180 0 10 (dk_at dksX1_level_3 4 rfl rfl)
theorem dX1_level_75 : decode cX1_level 75 = .ok (.iload_n 1, 1) := dk_27 (dk_at dksX1_level_3 7 rfl rfl)
theorem dX1_level_76 : decode cX1_level 76 = .ok (.invokevirtual 202, 3) := dk_182 0 202 (dk_at dksX1_level_3 8 rfl rfl)
theorem dX1_level_79 : decode cX1_level 79 = .ok (.ireturn, 1) := dk_172 (dk_at dksX1_level_3 11 rfl rfl)
theorem dX1_level_80 : decode cX1_level 80 = .ok (.aload_n 0, 1) := dk_42 (dk_at dksX1_level_3 12 rfl rfl)
theorem dX1_level_81 : decode cX1_level 81 = .ok (.getfield 30, 3) := dk_180 0 30 (dk_at dksX1_level_3 13 rfl rfl)
theorem dX1_level_84 : decode cX1_level 84 = .ok (.aload_n 0, 1) := dk_42 (dk_at dksX1_level_3 16 rfl rfl)
theorem dX1_level_85 : decode cX1_level 85 = .ok (.getfield 10, 3) := dk_180 0 10 (dk_at dksX1_level_3 17 rfl rfl)
theorem dX1_level_88 : decode cX1_level 88 = .ok (.iload_n 1, 1) := dk_27 (dk_at dksX1_level_3 20 rfl rfl)
theorem dX1_level_89 : decode cX1_level 89 = .ok (.invokevirtual 205, 3) := dk_182 0 205 (dk_at dksX1_level_3 21 rfl rfl)
theorem dX1_level_92 : decode cX1_level 92 = .ok (.ireturn, 1) := dk_172 (dk_at dksX1_level_4 0 rfl rfl)
theorem dX1_level_93 : decode cX1_level 93 = .ok (.aload_n 0, 1) := dk_42 (dk_at dksX1_level_4 1 rfl rfl)
theorem dX1_level_94 : decode cX1_level 94 = .ok (.getfield 30, 3) := dk_180 0 30 (dk_at dksX1_level_4 2 rfl rfl)
theorem dX1_level_97 : decode cX1_level 97 = .ok (.aload_n 0, 1) := dk_42 (dk_at dksX1_level_4 5 rfl rfl)
theorem dX1_level_98 : decode cX1_level 98 = .ok (.getfield 10, 3) := dk_180 0 10 (dk_at dksX1_level_4 6 rfl rfl)
theorem dX1_level_101 : decode cX1_level 101 = .ok (.iload_n 1, 1) := dk_27 (dk_at dksX1_level_4 9 rfl rfl)
theorem dX1_level_102 : decode cX1_level 102 = .ok (.invokevirtual 208, 3) := dk_182 0 208 (dk_at dksX1_level_4 10 rfl rfl)
theorem dX1_level_105 : decode cX1_level 105 = .ok (.ifCond .eq 7, 3) := dk_153 0 7 (dk_at dksX1_level_4 13 rfl rfl)
theorem dX1_level_108 : decode cX1_level 108 = .ok (.iconst 1, 1) := dk_4 (dk_at dksX1_level_4 16 rfl rfl)
theorem dX1_level_109 : decode cX1_level 109 = .ok (.goto 4, 3) := dk_167 0 4 (dk_at dksX1_level_4 17 rfl rfl)
theorem dX1_level_112 : decode cX1_level 112 = .ok (.iconst 0, 1) := dk_3 (dk_at dksX1_level_4 20 rfl rfl)
theorem dX1_level_113 : decode cX1_level 113 = .ok (.ireturn, 1) := dk_172 (dk_at dksX1_level_4 21 rfl rfl)
abbrev cX1_levelAt : ByteArray := prog_1_method_7_code
def yX1_levelAt : MethodName := ⟨RX1, "levelAt", "(I)V"⟩
def dkwX1_levelAt_0 : List UInt8 := [27, 155, 0, 18, 27, 42, 180, 0, 30, 180, 0, 95, 162, 0, 7, 4, 167, 0, 4, 3, 184, 0, 85, 177]
abbrev dktX1_levelAt_0 : List UInt8 := dkwX1_levelAt_0 ++ []
theorem dksX1_levelAt_0 : cX1_levelAt.data.toList.drop 0 = dktX1_levelAt_0 := by decide +kernel
theorem dX1_levelAt_0 : decode cX1_levelAt 0 = .ok (.iload_n 1, 1) := dk_27 (dk_at dksX1_levelAt_0 0 rfl rfl)
theorem dX1_levelAt_1 : decode cX1_levelAt 1 = .ok (.ifCond .lt 18, 3) := dk_155 0 18 (dk_at dksX1_levelAt_0 1 rfl rfl)
theorem dX1_levelAt_4 : decode cX1_levelAt 4 = .ok (.iload_n 1, 1) := dk_27 (dk_at dksX1_levelAt_0 4 rfl rfl)
theorem dX1_levelAt_5 : decode cX1_levelAt 5 = .ok (.aload_n 0, 1) := dk_42 (dk_at dksX1_levelAt_0 5 rfl rfl)
theorem dX1_levelAt_6 : decode cX1_levelAt 6 = .ok (.getfield 30, 3) := dk_180 0 30 (dk_at dksX1_levelAt_0 6 rfl rfl)
theorem dX1_levelAt_9 : decode cX1_levelAt 9 = .ok (.getfield 95, 3) := dk_180 0 95 (dk_at dksX1_levelAt_0 9 rfl rfl)
theorem dX1_levelAt_12 : decode cX1_levelAt 12 = .ok (.if_icmp .ge 7, 3) := dk_162 0 7 (dk_at dksX1_levelAt_0 12 rfl rfl)
theorem dX1_levelAt_15 : decode cX1_levelAt 15 = .ok (.iconst 1, 1) := dk_4 (dk_at dksX1_levelAt_0 15 rfl rfl)
theorem dX1_levelAt_16 : decode cX1_levelAt 16 = .ok (.goto 4, 3) := dk_167 0 4 (dk_at dksX1_levelAt_0 16 rfl rfl)
theorem dX1_levelAt_19 : decode cX1_levelAt 19 = .ok (.iconst 0, 1) := dk_3 (dk_at dksX1_levelAt_0 19 rfl rfl)
theorem dX1_levelAt_20 : decode cX1_levelAt 20 = .ok (.invokestatic 85, 3) := dk_184 0 85 (dk_at dksX1_levelAt_0 20 rfl rfl)
theorem dX1_levelAt_23 : decode cX1_levelAt 23 = .ok (.return_, 1) := dk_177 (dk_at dksX1_levelAt_0 23 rfl rfl)
abbrev cX1_put : ByteArray := prog_1_method_18_code
def yX1_put : MethodName := ⟨RX1, "put", "(II)I"⟩
def dkwX1_put_2 : List UInt8 := [172, 42, 180, 0, 30, 27, 28, 182, 0, 222, 42, 180, 0, 30, 180, 0, 95, 172]
abbrev dktX1_put_2 : List UInt8 := dkwX1_put_2 ++ []
def dkwX1_put_1 : List UInt8 := [180, 0, 30, 180, 0, 95, 184, 0, 137, 153, 0, 7, 4, 167, 0, 4, 3, 182, 0, 218, 154, 0, 5, 2]
abbrev dktX1_put_1 : List UInt8 := dkwX1_put_1 ++ dktX1_put_2
def dkwX1_put_0 : List UInt8 := [42, 27, 182, 0, 164, 87, 42, 42, 180, 0, 30, 27, 182, 0, 189, 2, 160, 0, 22, 28, 3, 42]
abbrev dktX1_put_0 : List UInt8 := dkwX1_put_0 ++ dktX1_put_1
theorem dksX1_put_0 : cX1_put.data.toList.drop 0 = dktX1_put_0 := by decide +kernel
theorem dksX1_put_1 : cX1_put.data.toList.drop 22 = dktX1_put_1 := dk_seg dksX1_put_0 22 rfl rfl
theorem dksX1_put_2 : cX1_put.data.toList.drop 46 = dktX1_put_2 := dk_seg dksX1_put_1 24 rfl rfl
theorem dX1_put_0 : decode cX1_put 0 = .ok (.aload_n 0, 1) := dk_42 (dk_at dksX1_put_0 0 rfl rfl)
theorem dX1_put_1 : decode cX1_put 1 = .ok (.iload_n 1, 1) := dk_27 (dk_at dksX1_put_0 1 rfl rfl)
theorem dX1_put_2 : decode cX1_put 2 = .ok (.invokevirtual 164, 3) := dk_182 0 164 (dk_at dksX1_put_0 2 rfl rfl)
theorem dX1_put_5 : decode cX1_put 5 = .ok (.pop, 1) := dk_87 (dk_at dksX1_put_0 5 rfl rfl)
theorem dX1_put_6 : decode cX1_put 6 = .ok (.aload_n 0, 1) := dk_42 (dk_at dksX1_put_0 6 rfl rfl)
theorem dX1_put_7 : decode cX1_put 7 = .ok (.aload_n 0, 1) := dk_42 (dk_at dksX1_put_0 7 rfl rfl)
theorem dX1_put_8 : decode cX1_put 8 = .ok (.getfield 30, 3) := dk_180 0 30 (dk_at dksX1_put_0 8 rfl rfl)
theorem dX1_put_11 : decode cX1_put 11 = .ok (.iload_n 1, 1) := dk_27 (dk_at dksX1_put_0 11 rfl rfl)
theorem dX1_put_12 : decode cX1_put 12 = .ok (.invokevirtual 189, 3) := dk_182 0 189 (dk_at dksX1_put_0 12 rfl rfl)
theorem dX1_put_15 : decode cX1_put 15 = .ok (.iconst (-1), 1) := dk_2 (dk_at dksX1_put_0 15 rfl rfl)
theorem dX1_put_16 : decode cX1_put 16 = .ok (.if_icmp .ne 22, 3) := dk_160 0 22 (dk_at dksX1_put_0 16 rfl rfl)
theorem dX1_put_19 : decode cX1_put 19 = .ok (.iload_n 2, 1) := dk_28 (dk_at dksX1_put_0 19 rfl rfl)
theorem dX1_put_20 : decode cX1_put 20 = .ok (.iconst 0, 1) := dk_3 (dk_at dksX1_put_0 20 rfl rfl)
theorem dX1_put_21 : decode cX1_put 21 = .ok (.aload_n 0, 1) := dk_42 (dk_at dksX1_put_0 21 rfl rfl)
theorem dX1_put_22 : decode cX1_put 22 = .ok (.getfield 30, 3) := dk_180 0 30 (dk_at dksX1_put_1 0 rfl rfl)
theorem dX1_put_25 : decode cX1_put 25 = .ok (.getfield 95, 3) := dk_180 0 95 (dk_at dksX1_put_1 3 rfl rfl)
theorem dX1_put_28 : decode cX1_put 28 = .ok (.invokestatic 137, 3) := dk_184 0 137 (dk_at dksX1_put_1 6 rfl rfl)
theorem dX1_put_31 : decode cX1_put 31 = .ok (.ifCond .eq 7, 3) := dk_153 0 7 (dk_at dksX1_put_1 9 rfl rfl)
theorem dX1_put_34 : decode cX1_put 34 = .ok (.iconst 1, 1) := dk_4 (dk_at dksX1_put_1 12 rfl rfl)
theorem dX1_put_35 : decode cX1_put 35 = .ok (.goto 4, 3) := dk_167 0 4 (dk_at dksX1_put_1 13 rfl rfl)
theorem dX1_put_38 : decode cX1_put 38 = .ok (.iconst 0, 1) := dk_3 (dk_at dksX1_put_1 16 rfl rfl)
theorem dX1_put_39 : decode cX1_put 39 = .ok (.invokevirtual 218, 3) := dk_182 0 218 (dk_at dksX1_put_1 17 rfl rfl)
theorem dX1_put_42 : decode cX1_put 42 = .ok (.ifCond .ne 5, 3) := dk_154 0 5 (dk_at dksX1_put_1 20 rfl rfl)
theorem dX1_put_45 : decode cX1_put 45 = .ok (.iconst (-1), 1) := dk_2 (dk_at dksX1_put_1 23 rfl rfl)
theorem dX1_put_46 : decode cX1_put 46 = .ok (.ireturn, 1) := dk_172 (dk_at dksX1_put_2 0 rfl rfl)
theorem dX1_put_47 : decode cX1_put 47 = .ok (.aload_n 0, 1) := dk_42 (dk_at dksX1_put_2 1 rfl rfl)
theorem dX1_put_48 : decode cX1_put 48 = .ok (.getfield 30, 3) := dk_180 0 30 (dk_at dksX1_put_2 2 rfl rfl)
theorem dX1_put_51 : decode cX1_put 51 = .ok (.iload_n 1, 1) := dk_27 (dk_at dksX1_put_2 5 rfl rfl)
theorem dX1_put_52 : decode cX1_put 52 = .ok (.iload_n 2, 1) := dk_28 (dk_at dksX1_put_2 6 rfl rfl)
theorem dX1_put_53 : decode cX1_put 53 = .ok (.invokevirtual 222, 3) := dk_182 0 222 (dk_at dksX1_put_2 7 rfl rfl)
theorem dX1_put_56 : decode cX1_put 56 = .ok (.aload_n 0, 1) := dk_42 (dk_at dksX1_put_2 10 rfl rfl)
theorem dX1_put_57 : decode cX1_put 57 = .ok (.getfield 30, 3) := dk_180 0 30 (dk_at dksX1_put_2 11 rfl rfl)
theorem dX1_put_60 : decode cX1_put 60 = .ok (.getfield 95, 3) := dk_180 0 95 (dk_at dksX1_put_2 14 rfl rfl)
theorem dX1_put_63 : decode cX1_put 63 = .ok (.ireturn, 1) := dk_172 (dk_at dksX1_put_2 17 rfl rfl)
abbrev cX1_take : ByteArray := prog_1_method_19_code
def yX1_take : MethodName := ⟨RX1, "take", "(I)I"⟩
def dkwX1_take_1 : List UInt8 := [167, 0, 4, 3, 182, 0, 218, 153, 0, 11, 42, 180, 0, 30, 28, 182, 0, 226, 28, 172]
abbrev dktX1_take_1 : List UInt8 := dkwX1_take_1 ++ []
def dkwX1_take_0 : List UInt8 := [42, 27, 182, 0, 164, 87, 42, 180, 0, 30, 27, 182, 0, 189, 61, 42, 28, 2, 159, 0, 7, 4]
abbrev dktX1_take_0 : List UInt8 := dkwX1_take_0 ++ dktX1_take_1
theorem dksX1_take_0 : cX1_take.data.toList.drop 0 = dktX1_take_0 := by decide +kernel
theorem dksX1_take_1 : cX1_take.data.toList.drop 22 = dktX1_take_1 := dk_seg dksX1_take_0 22 rfl rfl
theorem dX1_take_0 : decode cX1_take 0 = .ok (.aload_n 0, 1) := dk_42 (dk_at dksX1_take_0 0 rfl rfl)
theorem dX1_take_1 : decode cX1_take 1 = .ok (.iload_n 1, 1) := dk_27 (dk_at dksX1_take_0 1 rfl rfl)
theorem dX1_take_2 : decode cX1_take 2 = .ok (.invokevirtual 164, 3) := dk_182 0 164 (dk_at dksX1_take_0 2 rfl rfl)
theorem dX1_take_5 : decode cX1_take 5 = .ok (.pop, 1) := dk_87 (dk_at dksX1_take_0 5 rfl rfl)
theorem dX1_take_6 : decode cX1_take 6 = .ok (.aload_n 0, 1) := dk_42 (dk_at dksX1_take_0 6 rfl rfl)
theorem dX1_take_7 : decode cX1_take 7 = .ok (.getfield 30, 3) := dk_180 0 30 (dk_at dksX1_take_0 7 rfl rfl)
theorem dX1_take_10 : decode cX1_take 10 = .ok (.iload_n 1, 1) := dk_27 (dk_at dksX1_take_0 10 rfl rfl)
theorem dX1_take_11 : decode cX1_take 11 = .ok (.invokevirtual 189, 3) := dk_182 0 189 (dk_at dksX1_take_0 11 rfl rfl)
theorem dX1_take_14 : decode cX1_take 14 = .ok (.istore_n 2, 1) := dk_61 (dk_at dksX1_take_0 14 rfl rfl)
theorem dX1_take_15 : decode cX1_take 15 = .ok (.aload_n 0, 1) := dk_42 (dk_at dksX1_take_0 15 rfl rfl)
theorem dX1_take_16 : decode cX1_take 16 = .ok (.iload_n 2, 1) := dk_28 (dk_at dksX1_take_0 16 rfl rfl)
theorem dX1_take_17 : decode cX1_take 17 = .ok (.iconst (-1), 1) := dk_2 (dk_at dksX1_take_0 17 rfl rfl)
theorem dX1_take_18 : decode cX1_take 18 = .ok (.if_icmp .eq 7, 3) := dk_159 0 7 (dk_at dksX1_take_0 18 rfl rfl)
theorem dX1_take_21 : decode cX1_take 21 = .ok (.iconst 1, 1) := dk_4 (dk_at dksX1_take_0 21 rfl rfl)
theorem dX1_take_22 : decode cX1_take 22 = .ok (.goto 4, 3) := dk_167 0 4 (dk_at dksX1_take_1 0 rfl rfl)
theorem dX1_take_25 : decode cX1_take 25 = .ok (.iconst 0, 1) := dk_3 (dk_at dksX1_take_1 3 rfl rfl)
theorem dX1_take_26 : decode cX1_take 26 = .ok (.invokevirtual 218, 3) := dk_182 0 218 (dk_at dksX1_take_1 4 rfl rfl)
theorem dX1_take_29 : decode cX1_take 29 = .ok (.ifCond .eq 11, 3) := dk_153 0 11 (dk_at dksX1_take_1 7 rfl rfl)
theorem dX1_take_32 : decode cX1_take 32 = .ok (.aload_n 0, 1) := dk_42 (dk_at dksX1_take_1 10 rfl rfl)
theorem dX1_take_33 : decode cX1_take 33 = .ok (.getfield 30, 3) := dk_180 0 30 (dk_at dksX1_take_1 11 rfl rfl)
theorem dX1_take_36 : decode cX1_take 36 = .ok (.iload_n 2, 1) := dk_28 (dk_at dksX1_take_1 14 rfl rfl)
theorem dX1_take_37 : decode cX1_take 37 = .ok (.invokevirtual 226, 3) := dk_182 0 226 (dk_at dksX1_take_1 15 rfl rfl)
theorem dX1_take_40 : decode cX1_take 40 = .ok (.iload_n 2, 1) := dk_28 (dk_at dksX1_take_1 18 rfl rfl)
theorem dX1_take_41 : decode cX1_take 41 = .ok (.ireturn, 1) := dk_172 (dk_at dksX1_take_1 19 rfl rfl)
abbrev cX1_change : ByteArray := prog_1_method_20_code
def yX1_change : MethodName := ⟨RX1, "change", "(II)Z"⟩
def dkwX1_change_2 : List UInt8 := [180, 0, 30, 180, 0, 195, 28, 46, 79, 42, 180, 0, 30, 180, 0, 195, 28, 29, 79, 4, 172]
abbrev dktX1_change_2 : List UInt8 := dkwX1_change_2 ++ []
def dkwX1_change_1 : List UInt8 := [154, 0, 5, 3, 172, 42, 180, 0, 30, 180, 0, 195, 27, 46, 62, 42, 180, 0, 30, 180, 0, 195, 27, 42]
abbrev dktX1_change_1 : List UInt8 := dkwX1_change_1 ++ dktX1_change_2
def dkwX1_change_0 : List UInt8 := [42, 27, 182, 0, 192, 42, 28, 182, 0, 192, 42, 27, 28, 159, 0, 7, 4, 167, 0, 4, 3, 182, 0, 218]
abbrev dktX1_change_0 : List UInt8 := dkwX1_change_0 ++ dktX1_change_1
theorem dksX1_change_0 : cX1_change.data.toList.drop 0 = dktX1_change_0 := by decide +kernel
theorem dksX1_change_1 : cX1_change.data.toList.drop 24 = dktX1_change_1 := dk_seg dksX1_change_0 24 rfl rfl
theorem dksX1_change_2 : cX1_change.data.toList.drop 48 = dktX1_change_2 := dk_seg dksX1_change_1 24 rfl rfl
theorem dX1_change_0 : decode cX1_change 0 = .ok (.aload_n 0, 1) := dk_42 (dk_at dksX1_change_0 0 rfl rfl)
theorem dX1_change_1 : decode cX1_change 1 = .ok (.iload_n 1, 1) := dk_27 (dk_at dksX1_change_0 1 rfl rfl)
theorem dX1_change_2 : decode cX1_change 2 = .ok (.invokevirtual 192, 3) := dk_182 0 192 (dk_at dksX1_change_0 2 rfl rfl)
theorem dX1_change_5 : decode cX1_change 5 = .ok (.aload_n 0, 1) := dk_42 (dk_at dksX1_change_0 5 rfl rfl)
theorem dX1_change_6 : decode cX1_change 6 = .ok (.iload_n 2, 1) := dk_28 (dk_at dksX1_change_0 6 rfl rfl)
theorem dX1_change_7 : decode cX1_change 7 = .ok (.invokevirtual 192, 3) := dk_182 0 192 (dk_at dksX1_change_0 7 rfl rfl)
theorem dX1_change_10 : decode cX1_change 10 = .ok (.aload_n 0, 1) := dk_42 (dk_at dksX1_change_0 10 rfl rfl)
theorem dX1_change_11 : decode cX1_change 11 = .ok (.iload_n 1, 1) := dk_27 (dk_at dksX1_change_0 11 rfl rfl)
theorem dX1_change_12 : decode cX1_change 12 = .ok (.iload_n 2, 1) := dk_28 (dk_at dksX1_change_0 12 rfl rfl)
theorem dX1_change_13 : decode cX1_change 13 = .ok (.if_icmp .eq 7, 3) := dk_159 0 7 (dk_at dksX1_change_0 13 rfl rfl)
theorem dX1_change_16 : decode cX1_change 16 = .ok (.iconst 1, 1) := dk_4 (dk_at dksX1_change_0 16 rfl rfl)
theorem dX1_change_17 : decode cX1_change 17 = .ok (.goto 4, 3) := dk_167 0 4 (dk_at dksX1_change_0 17 rfl rfl)
theorem dX1_change_20 : decode cX1_change 20 = .ok (.iconst 0, 1) := dk_3 (dk_at dksX1_change_0 20 rfl rfl)
theorem dX1_change_21 : decode cX1_change 21 = .ok (.invokevirtual 218, 3) := dk_182 0 218 (dk_at dksX1_change_0 21 rfl rfl)
theorem dX1_change_24 : decode cX1_change 24 = .ok (.ifCond .ne 5, 3) := dk_154 0 5 (dk_at dksX1_change_1 0 rfl rfl)
theorem dX1_change_27 : decode cX1_change 27 = .ok (.iconst 0, 1) := dk_3 (dk_at dksX1_change_1 3 rfl rfl)
theorem dX1_change_28 : decode cX1_change 28 = .ok (.ireturn, 1) := dk_172 (dk_at dksX1_change_1 4 rfl rfl)
theorem dX1_change_29 : decode cX1_change 29 = .ok (.aload_n 0, 1) := dk_42 (dk_at dksX1_change_1 5 rfl rfl)
theorem dX1_change_30 : decode cX1_change 30 = .ok (.getfield 30, 3) := dk_180 0 30 (dk_at dksX1_change_1 6 rfl rfl)
theorem dX1_change_33 : decode cX1_change 33 = .ok (.getfield 195, 3) := dk_180 0 195 (dk_at dksX1_change_1 9 rfl rfl)
theorem dX1_change_36 : decode cX1_change 36 = .ok (.iload_n 1, 1) := dk_27 (dk_at dksX1_change_1 12 rfl rfl)
theorem dX1_change_37 : decode cX1_change 37 = .ok (.iaload, 1) := dk_46 (dk_at dksX1_change_1 13 rfl rfl)
theorem dX1_change_38 : decode cX1_change 38 = .ok (.istore_n 3, 1) := dk_62 (dk_at dksX1_change_1 14 rfl rfl)
theorem dX1_change_39 : decode cX1_change 39 = .ok (.aload_n 0, 1) := dk_42 (dk_at dksX1_change_1 15 rfl rfl)
theorem dX1_change_40 : decode cX1_change 40 = .ok (.getfield 30, 3) := dk_180 0 30 (dk_at dksX1_change_1 16 rfl rfl)
theorem dX1_change_43 : decode cX1_change 43 = .ok (.getfield 195, 3) := dk_180 0 195 (dk_at dksX1_change_1 19 rfl rfl)
theorem dX1_change_46 : decode cX1_change 46 = .ok (.iload_n 1, 1) := dk_27 (dk_at dksX1_change_1 22 rfl rfl)
theorem dX1_change_47 : decode cX1_change 47 = .ok (.aload_n 0, 1) := dk_42 (dk_at dksX1_change_1 23 rfl rfl)
theorem dX1_change_48 : decode cX1_change 48 = .ok (.getfield 30, 3) := dk_180 0 30 (dk_at dksX1_change_2 0 rfl rfl)
theorem dX1_change_51 : decode cX1_change 51 = .ok (.getfield 195, 3) := dk_180 0 195 (dk_at dksX1_change_2 3 rfl rfl)
theorem dX1_change_54 : decode cX1_change 54 = .ok (.iload_n 2, 1) := dk_28 (dk_at dksX1_change_2 6 rfl rfl)
theorem dX1_change_55 : decode cX1_change 55 = .ok (.iaload, 1) := dk_46 (dk_at dksX1_change_2 7 rfl rfl)
theorem dX1_change_56 : decode cX1_change 56 = .ok (.iastore, 1) := dk_79 (dk_at dksX1_change_2 8 rfl rfl)
theorem dX1_change_57 : decode cX1_change 57 = .ok (.aload_n 0, 1) := dk_42 (dk_at dksX1_change_2 9 rfl rfl)
theorem dX1_change_58 : decode cX1_change 58 = .ok (.getfield 30, 3) := dk_180 0 30 (dk_at dksX1_change_2 10 rfl rfl)
theorem dX1_change_61 : decode cX1_change 61 = .ok (.getfield 195, 3) := dk_180 0 195 (dk_at dksX1_change_2 13 rfl rfl)
theorem dX1_change_64 : decode cX1_change 64 = .ok (.iload_n 2, 1) := dk_28 (dk_at dksX1_change_2 16 rfl rfl)
theorem dX1_change_65 : decode cX1_change 65 = .ok (.iload_n 3, 1) := dk_29 (dk_at dksX1_change_2 17 rfl rfl)
theorem dX1_change_66 : decode cX1_change 66 = .ok (.iastore, 1) := dk_79 (dk_at dksX1_change_2 18 rfl rfl)
theorem dX1_change_67 : decode cX1_change 67 = .ok (.iconst 1, 1) := dk_4 (dk_at dksX1_change_2 19 rfl rfl)
theorem dX1_change_68 : decode cX1_change 68 = .ok (.ireturn, 1) := dk_172 (dk_at dksX1_change_2 20 rfl rfl)
abbrev cX1_wedge : ByteArray := prog_1_method_22_code
def yX1_wedge : MethodName := ⟨RX1, "wedge", "(II)I"⟩
def dkwX1_wedge_0 : List UInt8 := [42, 27, 182, 0, 164, 87, 42, 42, 180, 0, 30, 180, 0, 186, 27, 28, 182, 0, 229, 172]
abbrev dktX1_wedge_0 : List UInt8 := dkwX1_wedge_0 ++ []
theorem dksX1_wedge_0 : cX1_wedge.data.toList.drop 0 = dktX1_wedge_0 := by decide +kernel
theorem dX1_wedge_0 : decode cX1_wedge 0 = .ok (.aload_n 0, 1) := dk_42 (dk_at dksX1_wedge_0 0 rfl rfl)
theorem dX1_wedge_1 : decode cX1_wedge 1 = .ok (.iload_n 1, 1) := dk_27 (dk_at dksX1_wedge_0 1 rfl rfl)
theorem dX1_wedge_2 : decode cX1_wedge 2 = .ok (.invokevirtual 164, 3) := dk_182 0 164 (dk_at dksX1_wedge_0 2 rfl rfl)
theorem dX1_wedge_5 : decode cX1_wedge 5 = .ok (.pop, 1) := dk_87 (dk_at dksX1_wedge_0 5 rfl rfl)
theorem dX1_wedge_6 : decode cX1_wedge 6 = .ok (.aload_n 0, 1) := dk_42 (dk_at dksX1_wedge_0 6 rfl rfl)
theorem dX1_wedge_7 : decode cX1_wedge 7 = .ok (.aload_n 0, 1) := dk_42 (dk_at dksX1_wedge_0 7 rfl rfl)
theorem dX1_wedge_8 : decode cX1_wedge 8 = .ok (.getfield 30, 3) := dk_180 0 30 (dk_at dksX1_wedge_0 8 rfl rfl)
theorem dX1_wedge_11 : decode cX1_wedge 11 = .ok (.getfield 186, 3) := dk_180 0 186 (dk_at dksX1_wedge_0 11 rfl rfl)
theorem dX1_wedge_14 : decode cX1_wedge 14 = .ok (.iload_n 1, 1) := dk_27 (dk_at dksX1_wedge_0 14 rfl rfl)
theorem dX1_wedge_15 : decode cX1_wedge 15 = .ok (.iload_n 2, 1) := dk_28 (dk_at dksX1_wedge_0 15 rfl rfl)
theorem dX1_wedge_16 : decode cX1_wedge 16 = .ok (.invokevirtual 229, 3) := dk_182 0 229 (dk_at dksX1_wedge_0 16 rfl rfl)
theorem dX1_wedge_19 : decode cX1_wedge 19 = .ok (.ireturn, 1) := dk_172 (dk_at dksX1_wedge_0 19 rfl rfl)
abbrev cX1_becomes : ByteArray := prog_1_method_21_code
def yX1_becomes : MethodName := ⟨RX1, "becomes", "([III)I"⟩
def dkwX1_becomes_1 : List UInt8 := [28, 29, 79, 21, 4, 172]
abbrev dktX1_becomes_1 : List UInt8 := dkwX1_becomes_1 ++ []
def dkwX1_becomes_0 : List UInt8 := [42, 29, 16, 247, 16, 9, 184, 0, 137, 182, 0, 218, 154, 0, 6, 16, 157, 172, 43, 28, 46, 54, 4, 43]
abbrev dktX1_becomes_0 : List UInt8 := dkwX1_becomes_0 ++ dktX1_becomes_1
theorem dksX1_becomes_0 : cX1_becomes.data.toList.drop 0 = dktX1_becomes_0 := by decide +kernel
theorem dksX1_becomes_1 : cX1_becomes.data.toList.drop 24 = dktX1_becomes_1 := dk_seg dksX1_becomes_0 24 rfl rfl
theorem dX1_becomes_0 : decode cX1_becomes 0 = .ok (.aload_n 0, 1) := dk_42 (dk_at dksX1_becomes_0 0 rfl rfl)
theorem dX1_becomes_1 : decode cX1_becomes 1 = .ok (.iload_n 3, 1) := dk_29 (dk_at dksX1_becomes_0 1 rfl rfl)
theorem dX1_becomes_2 : decode cX1_becomes 2 = .ok (.bipush (-9), 2) := dk_16 247 (dk_at dksX1_becomes_0 2 rfl rfl)
theorem dX1_becomes_4 : decode cX1_becomes 4 = .ok (.bipush 9, 2) := dk_16 9 (dk_at dksX1_becomes_0 4 rfl rfl)
theorem dX1_becomes_6 : decode cX1_becomes 6 = .ok (.invokestatic 137, 3) := dk_184 0 137 (dk_at dksX1_becomes_0 6 rfl rfl)
theorem dX1_becomes_9 : decode cX1_becomes 9 = .ok (.invokevirtual 218, 3) := dk_182 0 218 (dk_at dksX1_becomes_0 9 rfl rfl)
theorem dX1_becomes_12 : decode cX1_becomes 12 = .ok (.ifCond .ne 6, 3) := dk_154 0 6 (dk_at dksX1_becomes_0 12 rfl rfl)
theorem dX1_becomes_15 : decode cX1_becomes 15 = .ok (.bipush (-99), 2) := dk_16 157 (dk_at dksX1_becomes_0 15 rfl rfl)
theorem dX1_becomes_17 : decode cX1_becomes 17 = .ok (.ireturn, 1) := dk_172 (dk_at dksX1_becomes_0 17 rfl rfl)
theorem dX1_becomes_18 : decode cX1_becomes 18 = .ok (.aload_n 1, 1) := dk_43 (dk_at dksX1_becomes_0 18 rfl rfl)
theorem dX1_becomes_19 : decode cX1_becomes 19 = .ok (.iload_n 2, 1) := dk_28 (dk_at dksX1_becomes_0 19 rfl rfl)
theorem dX1_becomes_20 : decode cX1_becomes 20 = .ok (.iaload, 1) := dk_46 (dk_at dksX1_becomes_0 20 rfl rfl)
theorem dX1_becomes_21 : decode cX1_becomes 21 = .ok (.istore 4, 2) := dk_54 4 (dk_at dksX1_becomes_0 21 rfl rfl)
theorem dX1_becomes_23 : decode cX1_becomes 23 = .ok (.aload_n 1, 1) := dk_43 (dk_at dksX1_becomes_0 23 rfl rfl)
theorem dX1_becomes_24 : decode cX1_becomes 24 = .ok (.iload_n 2, 1) := dk_28 (dk_at dksX1_becomes_1 0 rfl rfl)
theorem dX1_becomes_25 : decode cX1_becomes 25 = .ok (.iload_n 3, 1) := dk_29 (dk_at dksX1_becomes_1 1 rfl rfl)
theorem dX1_becomes_26 : decode cX1_becomes 26 = .ok (.iastore, 1) := dk_79 (dk_at dksX1_becomes_1 2 rfl rfl)
theorem dX1_becomes_27 : decode cX1_becomes 27 = .ok (.iload 4, 2) := dk_21 4 (dk_at dksX1_becomes_1 3 rfl rfl)
theorem dX1_becomes_29 : decode cX1_becomes 29 = .ok (.ireturn, 1) := dk_172 (dk_at dksX1_becomes_1 5 rfl rfl)
abbrev cX1_saw : ByteArray := prog_1_method_23_code
def yX1_saw : MethodName := ⟨RX1, "saw", "(II)I"⟩
def dkwX1_saw_0 : List UInt8 := [42, 27, 182, 0, 164, 87, 42, 42, 180, 0, 30, 180, 0, 177, 27, 28, 182, 0, 229, 172]
abbrev dktX1_saw_0 : List UInt8 := dkwX1_saw_0 ++ []
theorem dksX1_saw_0 : cX1_saw.data.toList.drop 0 = dktX1_saw_0 := by decide +kernel
theorem dX1_saw_0 : decode cX1_saw 0 = .ok (.aload_n 0, 1) := dk_42 (dk_at dksX1_saw_0 0 rfl rfl)
theorem dX1_saw_1 : decode cX1_saw 1 = .ok (.iload_n 1, 1) := dk_27 (dk_at dksX1_saw_0 1 rfl rfl)
theorem dX1_saw_2 : decode cX1_saw 2 = .ok (.invokevirtual 164, 3) := dk_182 0 164 (dk_at dksX1_saw_0 2 rfl rfl)
theorem dX1_saw_5 : decode cX1_saw 5 = .ok (.pop, 1) := dk_87 (dk_at dksX1_saw_0 5 rfl rfl)
theorem dX1_saw_6 : decode cX1_saw 6 = .ok (.aload_n 0, 1) := dk_42 (dk_at dksX1_saw_0 6 rfl rfl)
theorem dX1_saw_7 : decode cX1_saw 7 = .ok (.aload_n 0, 1) := dk_42 (dk_at dksX1_saw_0 7 rfl rfl)
theorem dX1_saw_8 : decode cX1_saw 8 = .ok (.getfield 30, 3) := dk_180 0 30 (dk_at dksX1_saw_0 8 rfl rfl)
theorem dX1_saw_11 : decode cX1_saw 11 = .ok (.getfield 177, 3) := dk_180 0 177 (dk_at dksX1_saw_0 11 rfl rfl)
theorem dX1_saw_14 : decode cX1_saw 14 = .ok (.iload_n 1, 1) := dk_27 (dk_at dksX1_saw_0 14 rfl rfl)
theorem dX1_saw_15 : decode cX1_saw 15 = .ok (.iload_n 2, 1) := dk_28 (dk_at dksX1_saw_0 15 rfl rfl)
theorem dX1_saw_16 : decode cX1_saw 16 = .ok (.invokevirtual 229, 3) := dk_182 0 229 (dk_at dksX1_saw_0 16 rfl rfl)
theorem dX1_saw_19 : decode cX1_saw 19 = .ok (.ireturn, 1) := dk_172 (dk_at dksX1_saw_0 19 rfl rfl)
abbrev cX1_without : ByteArray := prog_1_method_28_code
def yX1_without : MethodName := ⟨RX1, "without", "(I)Z"⟩
def dkwX1_without_2 : List UInt8 := [180, 0, 10, 182, 0, 147, 172]
abbrev dktX1_without_2 : List UInt8 := dkwX1_without_2 ++ []
def dkwX1_without_1 : List UInt8 := [180, 0, 34, 42, 180, 0, 30, 182, 0, 239, 42, 180, 0, 34, 28, 182, 0, 226, 42, 180, 0, 34, 42]
abbrev dktX1_without_1 : List UInt8 := dkwX1_without_1 ++ dktX1_without_2
def dkwX1_without_0 : List UInt8 := [42, 27, 182, 0, 164, 87, 42, 180, 0, 30, 27, 182, 0, 189, 61, 28, 2, 160, 0, 5, 3, 172, 42]
abbrev dktX1_without_0 : List UInt8 := dkwX1_without_0 ++ dktX1_without_1
theorem dksX1_without_0 : cX1_without.data.toList.drop 0 = dktX1_without_0 := by decide +kernel
theorem dksX1_without_1 : cX1_without.data.toList.drop 23 = dktX1_without_1 := dk_seg dksX1_without_0 23 rfl rfl
theorem dksX1_without_2 : cX1_without.data.toList.drop 46 = dktX1_without_2 := dk_seg dksX1_without_1 23 rfl rfl
theorem dX1_without_0 : decode cX1_without 0 = .ok (.aload_n 0, 1) := dk_42 (dk_at dksX1_without_0 0 rfl rfl)
theorem dX1_without_1 : decode cX1_without 1 = .ok (.iload_n 1, 1) := dk_27 (dk_at dksX1_without_0 1 rfl rfl)
theorem dX1_without_2 : decode cX1_without 2 = .ok (.invokevirtual 164, 3) := dk_182 0 164 (dk_at dksX1_without_0 2 rfl rfl)
theorem dX1_without_5 : decode cX1_without 5 = .ok (.pop, 1) := dk_87 (dk_at dksX1_without_0 5 rfl rfl)
theorem dX1_without_6 : decode cX1_without 6 = .ok (.aload_n 0, 1) := dk_42 (dk_at dksX1_without_0 6 rfl rfl)
theorem dX1_without_7 : decode cX1_without 7 = .ok (.getfield 30, 3) := dk_180 0 30 (dk_at dksX1_without_0 7 rfl rfl)
theorem dX1_without_10 : decode cX1_without 10 = .ok (.iload_n 1, 1) := dk_27 (dk_at dksX1_without_0 10 rfl rfl)
theorem dX1_without_11 : decode cX1_without 11 = .ok (.invokevirtual 189, 3) := dk_182 0 189 (dk_at dksX1_without_0 11 rfl rfl)
theorem dX1_without_14 : decode cX1_without 14 = .ok (.istore_n 2, 1) := dk_61 (dk_at dksX1_without_0 14 rfl rfl)
theorem dX1_without_15 : decode cX1_without 15 = .ok (.iload_n 2, 1) := dk_28 (dk_at dksX1_without_0 15 rfl rfl)
theorem dX1_without_16 : decode cX1_without 16 = .ok (.iconst (-1), 1) := dk_2 (dk_at dksX1_without_0 16 rfl rfl)
theorem dX1_without_17 : decode cX1_without 17 = .ok (.if_icmp .ne 5, 3) := dk_160 0 5 (dk_at dksX1_without_0 17 rfl rfl)
theorem dX1_without_20 : decode cX1_without 20 = .ok (.iconst 0, 1) := dk_3 (dk_at dksX1_without_0 20 rfl rfl)
theorem dX1_without_21 : decode cX1_without 21 = .ok (.ireturn, 1) := dk_172 (dk_at dksX1_without_0 21 rfl rfl)
theorem dX1_without_22 : decode cX1_without 22 = .ok (.aload_n 0, 1) := dk_42 (dk_at dksX1_without_0 22 rfl rfl)
theorem dX1_without_23 : decode cX1_without 23 = .ok (.getfield 34, 3) := dk_180 0 34 (dk_at dksX1_without_1 0 rfl rfl)
theorem dX1_without_26 : decode cX1_without 26 = .ok (.aload_n 0, 1) := dk_42 (dk_at dksX1_without_1 3 rfl rfl)
theorem dX1_without_27 : decode cX1_without 27 = .ok (.getfield 30, 3) := dk_180 0 30 (dk_at dksX1_without_1 4 rfl rfl)
theorem dX1_without_30 : decode cX1_without 30 = .ok (.invokevirtual 239, 3) := dk_182 0 239 (dk_at dksX1_without_1 7 rfl rfl)
theorem dX1_without_33 : decode cX1_without 33 = .ok (.aload_n 0, 1) := dk_42 (dk_at dksX1_without_1 10 rfl rfl)
theorem dX1_without_34 : decode cX1_without 34 = .ok (.getfield 34, 3) := dk_180 0 34 (dk_at dksX1_without_1 11 rfl rfl)
theorem dX1_without_37 : decode cX1_without 37 = .ok (.iload_n 2, 1) := dk_28 (dk_at dksX1_without_1 14 rfl rfl)
theorem dX1_without_38 : decode cX1_without 38 = .ok (.invokevirtual 226, 3) := dk_182 0 226 (dk_at dksX1_without_1 15 rfl rfl)
theorem dX1_without_41 : decode cX1_without 41 = .ok (.aload_n 0, 1) := dk_42 (dk_at dksX1_without_1 18 rfl rfl)
theorem dX1_without_42 : decode cX1_without 42 = .ok (.getfield 34, 3) := dk_180 0 34 (dk_at dksX1_without_1 19 rfl rfl)
theorem dX1_without_45 : decode cX1_without 45 = .ok (.aload_n 0, 1) := dk_42 (dk_at dksX1_without_1 22 rfl rfl)
theorem dX1_without_46 : decode cX1_without 46 = .ok (.getfield 10, 3) := dk_180 0 10 (dk_at dksX1_without_2 0 rfl rfl)
theorem dX1_without_49 : decode cX1_without 49 = .ok (.invokevirtual 147, 3) := dk_182 0 147 (dk_at dksX1_without_2 3 rfl rfl)
theorem dX1_without_52 : decode cX1_without 52 = .ok (.ireturn, 1) := dk_172 (dk_at dksX1_without_2 6 rfl rfl)
abbrev cX1_most : ByteArray := prog_1_method_34_code
def yX1_most : MethodName := ⟨RX1, "most", "(I)I"⟩
def dkwX1_most_1 : List UInt8 := [167, 0, 4, 28, 172]
abbrev dktX1_most_1 : List UInt8 := dkwX1_most_1 ++ []
def dkwX1_most_0 : List UInt8 := [27, 3, 4, 184, 0, 137, 184, 0, 85, 42, 182, 1, 20, 61, 27, 154, 0, 10, 28, 184, 1, 12]
abbrev dktX1_most_0 : List UInt8 := dkwX1_most_0 ++ dktX1_most_1
theorem dksX1_most_0 : cX1_most.data.toList.drop 0 = dktX1_most_0 := by decide +kernel
theorem dksX1_most_1 : cX1_most.data.toList.drop 22 = dktX1_most_1 := dk_seg dksX1_most_0 22 rfl rfl
theorem dX1_most_0 : decode cX1_most 0 = .ok (.iload_n 1, 1) := dk_27 (dk_at dksX1_most_0 0 rfl rfl)
theorem dX1_most_1 : decode cX1_most 1 = .ok (.iconst 0, 1) := dk_3 (dk_at dksX1_most_0 1 rfl rfl)
theorem dX1_most_2 : decode cX1_most 2 = .ok (.iconst 1, 1) := dk_4 (dk_at dksX1_most_0 2 rfl rfl)
theorem dX1_most_3 : decode cX1_most 3 = .ok (.invokestatic 137, 3) := dk_184 0 137 (dk_at dksX1_most_0 3 rfl rfl)
theorem dX1_most_6 : decode cX1_most 6 = .ok (.invokestatic 85, 3) := dk_184 0 85 (dk_at dksX1_most_0 6 rfl rfl)
theorem dX1_most_9 : decode cX1_most 9 = .ok (.aload_n 0, 1) := dk_42 (dk_at dksX1_most_0 9 rfl rfl)
theorem dX1_most_10 : decode cX1_most 10 = .ok (.invokevirtual 276, 3) := dk_182 1 20 (dk_at dksX1_most_0 10 rfl rfl)
theorem dX1_most_13 : decode cX1_most 13 = .ok (.istore_n 2, 1) := dk_61 (dk_at dksX1_most_0 13 rfl rfl)
theorem dX1_most_14 : decode cX1_most 14 = .ok (.iload_n 1, 1) := dk_27 (dk_at dksX1_most_0 14 rfl rfl)
theorem dX1_most_15 : decode cX1_most 15 = .ok (.ifCond .ne 10, 3) := dk_154 0 10 (dk_at dksX1_most_0 15 rfl rfl)
theorem dX1_most_18 : decode cX1_most 18 = .ok (.iload_n 2, 1) := dk_28 (dk_at dksX1_most_0 18 rfl rfl)
theorem dX1_most_19 : decode cX1_most 19 = .ok (.invokestatic 268, 3) := dk_184 1 12 (dk_at dksX1_most_0 19 rfl rfl)
theorem dX1_most_22 : decode cX1_most 22 = .ok (.goto 4, 3) := dk_167 0 4 (dk_at dksX1_most_1 0 rfl rfl)
theorem dX1_most_25 : decode cX1_most 25 = .ok (.iload_n 2, 1) := dk_28 (dk_at dksX1_most_1 3 rfl rfl)
theorem dX1_most_26 : decode cX1_most 26 = .ok (.ireturn, 1) := dk_172 (dk_at dksX1_most_1 4 rfl rfl)
abbrev cX1_mostOf : ByteArray := prog_1_method_33_code
def yX1_mostOf : MethodName := ⟨RX1, "mostOf", "()I"⟩
def dkwX1_mostOf_1 : List UInt8 := [164, 0, 15, 42, 28, 182, 1, 17, 9, 148, 158, 0, 5, 28, 60, 132, 2, 1, 167, 255, 220, 27, 172]
abbrev dktX1_mostOf_1 : List UInt8 := dkwX1_mostOf_1 ++ []
def dkwX1_mostOf_0 : List UInt8 := [3, 60, 4, 61, 28, 4, 42, 182, 0, 83, 120, 162, 0, 32, 28, 184, 1, 12, 27, 184, 1, 12]
abbrev dktX1_mostOf_0 : List UInt8 := dkwX1_mostOf_0 ++ dktX1_mostOf_1
theorem dksX1_mostOf_0 : cX1_mostOf.data.toList.drop 0 = dktX1_mostOf_0 := by decide +kernel
theorem dksX1_mostOf_1 : cX1_mostOf.data.toList.drop 22 = dktX1_mostOf_1 := dk_seg dksX1_mostOf_0 22 rfl rfl
theorem dX1_mostOf_0 : decode cX1_mostOf 0 = .ok (.iconst 0, 1) := dk_3 (dk_at dksX1_mostOf_0 0 rfl rfl)
theorem dX1_mostOf_1 : decode cX1_mostOf 1 = .ok (.istore_n 1, 1) := dk_60 (dk_at dksX1_mostOf_0 1 rfl rfl)
theorem dX1_mostOf_2 : decode cX1_mostOf 2 = .ok (.iconst 1, 1) := dk_4 (dk_at dksX1_mostOf_0 2 rfl rfl)
theorem dX1_mostOf_3 : decode cX1_mostOf 3 = .ok (.istore_n 2, 1) := dk_61 (dk_at dksX1_mostOf_0 3 rfl rfl)
theorem dX1_mostOf_4 : decode cX1_mostOf 4 = .ok (.iload_n 2, 1) := dk_28 (dk_at dksX1_mostOf_0 4 rfl rfl)
theorem dX1_mostOf_5 : decode cX1_mostOf 5 = .ok (.iconst 1, 1) := dk_4 (dk_at dksX1_mostOf_0 5 rfl rfl)
theorem dX1_mostOf_6 : decode cX1_mostOf 6 = .ok (.aload_n 0, 1) := dk_42 (dk_at dksX1_mostOf_0 6 rfl rfl)
theorem dX1_mostOf_7 : decode cX1_mostOf 7 = .ok (.invokevirtual 83, 3) := dk_182 0 83 (dk_at dksX1_mostOf_0 7 rfl rfl)
theorem dX1_mostOf_10 : decode cX1_mostOf 10 = .ok (.ishl, 1) := dk_120 (dk_at dksX1_mostOf_0 10 rfl rfl)
theorem dX1_mostOf_11 : decode cX1_mostOf 11 = .ok (.if_icmp .ge 32, 3) := dk_162 0 32 (dk_at dksX1_mostOf_0 11 rfl rfl)
theorem dX1_mostOf_14 : decode cX1_mostOf 14 = .ok (.iload_n 2, 1) := dk_28 (dk_at dksX1_mostOf_0 14 rfl rfl)
theorem dX1_mostOf_15 : decode cX1_mostOf 15 = .ok (.invokestatic 268, 3) := dk_184 1 12 (dk_at dksX1_mostOf_0 15 rfl rfl)
theorem dX1_mostOf_18 : decode cX1_mostOf 18 = .ok (.iload_n 1, 1) := dk_27 (dk_at dksX1_mostOf_0 18 rfl rfl)
theorem dX1_mostOf_19 : decode cX1_mostOf 19 = .ok (.invokestatic 268, 3) := dk_184 1 12 (dk_at dksX1_mostOf_0 19 rfl rfl)
theorem dX1_mostOf_22 : decode cX1_mostOf 22 = .ok (.if_icmp .le 15, 3) := dk_164 0 15 (dk_at dksX1_mostOf_1 0 rfl rfl)
theorem dX1_mostOf_25 : decode cX1_mostOf 25 = .ok (.aload_n 0, 1) := dk_42 (dk_at dksX1_mostOf_1 3 rfl rfl)
theorem dX1_mostOf_26 : decode cX1_mostOf 26 = .ok (.iload_n 2, 1) := dk_28 (dk_at dksX1_mostOf_1 4 rfl rfl)
theorem dX1_mostOf_27 : decode cX1_mostOf 27 = .ok (.invokevirtual 273, 3) := dk_182 1 17 (dk_at dksX1_mostOf_1 5 rfl rfl)
theorem dX1_mostOf_30 : decode cX1_mostOf 30 = .ok (.lconst 0, 1) := dk_9 (dk_at dksX1_mostOf_1 8 rfl rfl)
theorem dX1_mostOf_31 : decode cX1_mostOf 31 = .ok (.lcmp, 1) := dk_148 (dk_at dksX1_mostOf_1 9 rfl rfl)
theorem dX1_mostOf_32 : decode cX1_mostOf 32 = .ok (.ifCond .le 5, 3) := dk_158 0 5 (dk_at dksX1_mostOf_1 10 rfl rfl)
theorem dX1_mostOf_35 : decode cX1_mostOf 35 = .ok (.iload_n 2, 1) := dk_28 (dk_at dksX1_mostOf_1 13 rfl rfl)
theorem dX1_mostOf_36 : decode cX1_mostOf 36 = .ok (.istore_n 1, 1) := dk_60 (dk_at dksX1_mostOf_1 14 rfl rfl)
theorem dX1_mostOf_37 : decode cX1_mostOf 37 = .ok (.iinc 2 1, 3) := dk_132 2 1 (dk_at dksX1_mostOf_1 15 rfl rfl)
theorem dX1_mostOf_40 : decode cX1_mostOf 40 = .ok (.goto (-36), 3) := dk_167 255 220 (dk_at dksX1_mostOf_1 18 rfl rfl)
theorem dX1_mostOf_43 : decode cX1_mostOf 43 = .ok (.iload_n 1, 1) := dk_27 (dk_at dksX1_mostOf_1 21 rfl rfl)
theorem dX1_mostOf_44 : decode cX1_mostOf 44 = .ok (.ireturn, 1) := dk_172 (dk_at dksX1_mostOf_1 22 rfl rfl)
abbrev cX1_row : ByteArray := prog_1_method_36_code
def yX1_row : MethodName := ⟨RX1, "row", "(I)I"⟩
def dkwX1_row_1 : List UInt8 := [184, 0, 85, 42, 3, 28, 182, 1, 25, 87, 42, 180, 0, 49, 27, 46, 172]
abbrev dktX1_row_1 : List UInt8 := dkwX1_row_1 ++ []
def dkwX1_row_0 : List UInt8 := [42, 182, 1, 20, 61, 27, 155, 0, 15, 27, 28, 184, 1, 12, 162, 0, 7, 4, 167, 0, 4, 3]
abbrev dktX1_row_0 : List UInt8 := dkwX1_row_0 ++ dktX1_row_1
theorem dksX1_row_0 : cX1_row.data.toList.drop 0 = dktX1_row_0 := by decide +kernel
theorem dksX1_row_1 : cX1_row.data.toList.drop 22 = dktX1_row_1 := dk_seg dksX1_row_0 22 rfl rfl
theorem dX1_row_0 : decode cX1_row 0 = .ok (.aload_n 0, 1) := dk_42 (dk_at dksX1_row_0 0 rfl rfl)
theorem dX1_row_1 : decode cX1_row 1 = .ok (.invokevirtual 276, 3) := dk_182 1 20 (dk_at dksX1_row_0 1 rfl rfl)
theorem dX1_row_4 : decode cX1_row 4 = .ok (.istore_n 2, 1) := dk_61 (dk_at dksX1_row_0 4 rfl rfl)
theorem dX1_row_5 : decode cX1_row 5 = .ok (.iload_n 1, 1) := dk_27 (dk_at dksX1_row_0 5 rfl rfl)
theorem dX1_row_6 : decode cX1_row 6 = .ok (.ifCond .lt 15, 3) := dk_155 0 15 (dk_at dksX1_row_0 6 rfl rfl)
theorem dX1_row_9 : decode cX1_row 9 = .ok (.iload_n 1, 1) := dk_27 (dk_at dksX1_row_0 9 rfl rfl)
theorem dX1_row_10 : decode cX1_row 10 = .ok (.iload_n 2, 1) := dk_28 (dk_at dksX1_row_0 10 rfl rfl)
theorem dX1_row_11 : decode cX1_row 11 = .ok (.invokestatic 268, 3) := dk_184 1 12 (dk_at dksX1_row_0 11 rfl rfl)
theorem dX1_row_14 : decode cX1_row 14 = .ok (.if_icmp .ge 7, 3) := dk_162 0 7 (dk_at dksX1_row_0 14 rfl rfl)
theorem dX1_row_17 : decode cX1_row 17 = .ok (.iconst 1, 1) := dk_4 (dk_at dksX1_row_0 17 rfl rfl)
theorem dX1_row_18 : decode cX1_row 18 = .ok (.goto 4, 3) := dk_167 0 4 (dk_at dksX1_row_0 18 rfl rfl)
theorem dX1_row_21 : decode cX1_row 21 = .ok (.iconst 0, 1) := dk_3 (dk_at dksX1_row_0 21 rfl rfl)
theorem dX1_row_22 : decode cX1_row 22 = .ok (.invokestatic 85, 3) := dk_184 0 85 (dk_at dksX1_row_1 0 rfl rfl)
theorem dX1_row_25 : decode cX1_row 25 = .ok (.aload_n 0, 1) := dk_42 (dk_at dksX1_row_1 3 rfl rfl)
theorem dX1_row_26 : decode cX1_row 26 = .ok (.iconst 0, 1) := dk_3 (dk_at dksX1_row_1 4 rfl rfl)
theorem dX1_row_27 : decode cX1_row 27 = .ok (.iload_n 2, 1) := dk_28 (dk_at dksX1_row_1 5 rfl rfl)
theorem dX1_row_28 : decode cX1_row 28 = .ok (.invokevirtual 281, 3) := dk_182 1 25 (dk_at dksX1_row_1 6 rfl rfl)
theorem dX1_row_31 : decode cX1_row 31 = .ok (.pop, 1) := dk_87 (dk_at dksX1_row_1 9 rfl rfl)
theorem dX1_row_32 : decode cX1_row 32 = .ok (.aload_n 0, 1) := dk_42 (dk_at dksX1_row_1 10 rfl rfl)
theorem dX1_row_33 : decode cX1_row 33 = .ok (.getfield 49, 3) := dk_180 0 49 (dk_at dksX1_row_1 11 rfl rfl)
theorem dX1_row_36 : decode cX1_row 36 = .ok (.iload_n 1, 1) := dk_27 (dk_at dksX1_row_1 14 rfl rfl)
theorem dX1_row_37 : decode cX1_row 37 = .ok (.iaload, 1) := dk_46 (dk_at dksX1_row_1 15 rfl rfl)
theorem dX1_row_38 : decode cX1_row 38 = .ok (.ireturn, 1) := dk_172 (dk_at dksX1_row_1 16 rfl rfl)
abbrev cX1_isRow : ByteArray := prog_1_method_35_code
def yX1_isRow : MethodName := ⟨RX1, "isRow", "(II)Z"⟩
def dkwX1_isRow_3 : List UInt8 := [153, 0, 5, 4, 172, 132, 3, 1, 167, 255, 190, 3, 172]
abbrev dktX1_isRow_3 : List UInt8 := dkwX1_isRow_3 ++ []
def dkwX1_isRow_2 : List UInt8 := [167, 0, 28, 42, 180, 0, 49, 27, 184, 1, 12, 29, 79, 42, 27, 4, 29, 120, 128, 28, 182, 1, 25]
abbrev dktX1_isRow_2 : List UInt8 := dkwX1_isRow_2 ++ dktX1_isRow_3
def dkwX1_isRow_1 : List UInt8 := [153, 0, 50, 27, 29, 122, 4, 126, 4, 159, 0, 41, 42, 29, 27, 28, 182, 1, 23, 154, 0, 6]
abbrev dktX1_isRow_1 : List UInt8 := dkwX1_isRow_1 ++ dktX1_isRow_2
def dkwX1_isRow_0 : List UInt8 := [27, 28, 160, 0, 5, 4, 172, 3, 62, 29, 42, 182, 0, 83, 162, 0, 64, 28, 29, 122, 4, 126]
abbrev dktX1_isRow_0 : List UInt8 := dkwX1_isRow_0 ++ dktX1_isRow_1
theorem dksX1_isRow_0 : cX1_isRow.data.toList.drop 0 = dktX1_isRow_0 := by decide +kernel
theorem dksX1_isRow_1 : cX1_isRow.data.toList.drop 22 = dktX1_isRow_1 := dk_seg dksX1_isRow_0 22 rfl rfl
theorem dksX1_isRow_2 : cX1_isRow.data.toList.drop 44 = dktX1_isRow_2 := dk_seg dksX1_isRow_1 22 rfl rfl
theorem dksX1_isRow_3 : cX1_isRow.data.toList.drop 67 = dktX1_isRow_3 := dk_seg dksX1_isRow_2 23 rfl rfl
theorem dX1_isRow_0 : decode cX1_isRow 0 = .ok (.iload_n 1, 1) := dk_27 (dk_at dksX1_isRow_0 0 rfl rfl)
theorem dX1_isRow_1 : decode cX1_isRow 1 = .ok (.iload_n 2, 1) := dk_28 (dk_at dksX1_isRow_0 1 rfl rfl)
theorem dX1_isRow_2 : decode cX1_isRow 2 = .ok (.if_icmp .ne 5, 3) := dk_160 0 5 (dk_at dksX1_isRow_0 2 rfl rfl)
theorem dX1_isRow_5 : decode cX1_isRow 5 = .ok (.iconst 1, 1) := dk_4 (dk_at dksX1_isRow_0 5 rfl rfl)
theorem dX1_isRow_6 : decode cX1_isRow 6 = .ok (.ireturn, 1) := dk_172 (dk_at dksX1_isRow_0 6 rfl rfl)
theorem dX1_isRow_7 : decode cX1_isRow 7 = .ok (.iconst 0, 1) := dk_3 (dk_at dksX1_isRow_0 7 rfl rfl)
theorem dX1_isRow_8 : decode cX1_isRow 8 = .ok (.istore_n 3, 1) := dk_62 (dk_at dksX1_isRow_0 8 rfl rfl)
theorem dX1_isRow_9 : decode cX1_isRow 9 = .ok (.iload_n 3, 1) := dk_29 (dk_at dksX1_isRow_0 9 rfl rfl)
theorem dX1_isRow_10 : decode cX1_isRow 10 = .ok (.aload_n 0, 1) := dk_42 (dk_at dksX1_isRow_0 10 rfl rfl)
theorem dX1_isRow_11 : decode cX1_isRow 11 = .ok (.invokevirtual 83, 3) := dk_182 0 83 (dk_at dksX1_isRow_0 11 rfl rfl)
theorem dX1_isRow_14 : decode cX1_isRow 14 = .ok (.if_icmp .ge 64, 3) := dk_162 0 64 (dk_at dksX1_isRow_0 14 rfl rfl)
theorem dX1_isRow_17 : decode cX1_isRow 17 = .ok (.iload_n 2, 1) := dk_28 (dk_at dksX1_isRow_0 17 rfl rfl)
theorem dX1_isRow_18 : decode cX1_isRow 18 = .ok (.iload_n 3, 1) := dk_29 (dk_at dksX1_isRow_0 18 rfl rfl)
theorem dX1_isRow_19 : decode cX1_isRow 19 = .ok (.ishr, 1) := dk_122 (dk_at dksX1_isRow_0 19 rfl rfl)
theorem dX1_isRow_20 : decode cX1_isRow 20 = .ok (.iconst 1, 1) := dk_4 (dk_at dksX1_isRow_0 20 rfl rfl)
theorem dX1_isRow_21 : decode cX1_isRow 21 = .ok (.iand, 1) := dk_126 (dk_at dksX1_isRow_0 21 rfl rfl)
theorem dX1_isRow_22 : decode cX1_isRow 22 = .ok (.ifCond .eq 50, 3) := dk_153 0 50 (dk_at dksX1_isRow_1 0 rfl rfl)
theorem dX1_isRow_25 : decode cX1_isRow 25 = .ok (.iload_n 1, 1) := dk_27 (dk_at dksX1_isRow_1 3 rfl rfl)
theorem dX1_isRow_26 : decode cX1_isRow 26 = .ok (.iload_n 3, 1) := dk_29 (dk_at dksX1_isRow_1 4 rfl rfl)
theorem dX1_isRow_27 : decode cX1_isRow 27 = .ok (.ishr, 1) := dk_122 (dk_at dksX1_isRow_1 5 rfl rfl)
theorem dX1_isRow_28 : decode cX1_isRow 28 = .ok (.iconst 1, 1) := dk_4 (dk_at dksX1_isRow_1 6 rfl rfl)
theorem dX1_isRow_29 : decode cX1_isRow 29 = .ok (.iand, 1) := dk_126 (dk_at dksX1_isRow_1 7 rfl rfl)
theorem dX1_isRow_30 : decode cX1_isRow 30 = .ok (.iconst 1, 1) := dk_4 (dk_at dksX1_isRow_1 8 rfl rfl)
theorem dX1_isRow_31 : decode cX1_isRow 31 = .ok (.if_icmp .eq 41, 3) := dk_159 0 41 (dk_at dksX1_isRow_1 9 rfl rfl)
theorem dX1_isRow_34 : decode cX1_isRow 34 = .ok (.aload_n 0, 1) := dk_42 (dk_at dksX1_isRow_1 12 rfl rfl)
theorem dX1_isRow_35 : decode cX1_isRow 35 = .ok (.iload_n 3, 1) := dk_29 (dk_at dksX1_isRow_1 13 rfl rfl)
theorem dX1_isRow_36 : decode cX1_isRow 36 = .ok (.iload_n 1, 1) := dk_27 (dk_at dksX1_isRow_1 14 rfl rfl)
theorem dX1_isRow_37 : decode cX1_isRow 37 = .ok (.iload_n 2, 1) := dk_28 (dk_at dksX1_isRow_1 15 rfl rfl)
theorem dX1_isRow_38 : decode cX1_isRow 38 = .ok (.invokevirtual 279, 3) := dk_182 1 23 (dk_at dksX1_isRow_1 16 rfl rfl)
theorem dX1_isRow_41 : decode cX1_isRow 41 = .ok (.ifCond .ne 6, 3) := dk_154 0 6 (dk_at dksX1_isRow_1 19 rfl rfl)
theorem dX1_isRow_44 : decode cX1_isRow 44 = .ok (.goto 28, 3) := dk_167 0 28 (dk_at dksX1_isRow_2 0 rfl rfl)
theorem dX1_isRow_47 : decode cX1_isRow 47 = .ok (.aload_n 0, 1) := dk_42 (dk_at dksX1_isRow_2 3 rfl rfl)
theorem dX1_isRow_48 : decode cX1_isRow 48 = .ok (.getfield 49, 3) := dk_180 0 49 (dk_at dksX1_isRow_2 4 rfl rfl)
theorem dX1_isRow_51 : decode cX1_isRow 51 = .ok (.iload_n 1, 1) := dk_27 (dk_at dksX1_isRow_2 7 rfl rfl)
theorem dX1_isRow_52 : decode cX1_isRow 52 = .ok (.invokestatic 268, 3) := dk_184 1 12 (dk_at dksX1_isRow_2 8 rfl rfl)
theorem dX1_isRow_55 : decode cX1_isRow 55 = .ok (.iload_n 3, 1) := dk_29 (dk_at dksX1_isRow_2 11 rfl rfl)
theorem dX1_isRow_56 : decode cX1_isRow 56 = .ok (.iastore, 1) := dk_79 (dk_at dksX1_isRow_2 12 rfl rfl)
theorem dX1_isRow_57 : decode cX1_isRow 57 = .ok (.aload_n 0, 1) := dk_42 (dk_at dksX1_isRow_2 13 rfl rfl)
theorem dX1_isRow_58 : decode cX1_isRow 58 = .ok (.iload_n 1, 1) := dk_27 (dk_at dksX1_isRow_2 14 rfl rfl)
theorem dX1_isRow_59 : decode cX1_isRow 59 = .ok (.iconst 1, 1) := dk_4 (dk_at dksX1_isRow_2 15 rfl rfl)
theorem dX1_isRow_60 : decode cX1_isRow 60 = .ok (.iload_n 3, 1) := dk_29 (dk_at dksX1_isRow_2 16 rfl rfl)
theorem dX1_isRow_61 : decode cX1_isRow 61 = .ok (.ishl, 1) := dk_120 (dk_at dksX1_isRow_2 17 rfl rfl)
theorem dX1_isRow_62 : decode cX1_isRow 62 = .ok (.ior, 1) := dk_128 (dk_at dksX1_isRow_2 18 rfl rfl)
theorem dX1_isRow_63 : decode cX1_isRow 63 = .ok (.iload_n 2, 1) := dk_28 (dk_at dksX1_isRow_2 19 rfl rfl)
theorem dX1_isRow_64 : decode cX1_isRow 64 = .ok (.invokevirtual 281, 3) := dk_182 1 25 (dk_at dksX1_isRow_2 20 rfl rfl)
theorem dX1_isRow_67 : decode cX1_isRow 67 = .ok (.ifCond .eq 5, 3) := dk_153 0 5 (dk_at dksX1_isRow_3 0 rfl rfl)
theorem dX1_isRow_70 : decode cX1_isRow 70 = .ok (.iconst 1, 1) := dk_4 (dk_at dksX1_isRow_3 3 rfl rfl)
theorem dX1_isRow_71 : decode cX1_isRow 71 = .ok (.ireturn, 1) := dk_172 (dk_at dksX1_isRow_3 4 rfl rfl)
theorem dX1_isRow_72 : decode cX1_isRow 72 = .ok (.iinc 3 1, 3) := dk_132 3 1 (dk_at dksX1_isRow_3 5 rfl rfl)
theorem dX1_isRow_75 : decode cX1_isRow 75 = .ok (.goto (-66), 3) := dk_167 255 190 (dk_at dksX1_isRow_3 8 rfl rfl)
theorem dX1_isRow_78 : decode cX1_isRow 78 = .ok (.iconst 0, 1) := dk_3 (dk_at dksX1_isRow_3 11 rfl rfl)
theorem dX1_isRow_79 : decode cX1_isRow 79 = .ok (.ireturn, 1) := dk_172 (dk_at dksX1_isRow_3 12 rfl rfl)
abbrev cX1_marry : ByteArray := prog_1_method_43_code
def yX1_marry : MethodName := ⟨RX1, "marry", "(II)Z"⟩
def dkwX1_marry_1 : List UInt8 := [184, 0, 105, 42, 27, 28, 182, 1, 47, 172]
abbrev dktX1_marry_1 : List UInt8 := dkwX1_marry_1 ++ []
def dkwX1_marry_0 : List UInt8 := [42, 27, 182, 0, 164, 87, 42, 28, 182, 0, 164, 87, 27, 28, 159, 0, 7, 4, 167, 0, 4, 3]
abbrev dktX1_marry_0 : List UInt8 := dkwX1_marry_0 ++ dktX1_marry_1
theorem dksX1_marry_0 : cX1_marry.data.toList.drop 0 = dktX1_marry_0 := by decide +kernel
theorem dksX1_marry_1 : cX1_marry.data.toList.drop 22 = dktX1_marry_1 := dk_seg dksX1_marry_0 22 rfl rfl
theorem dX1_marry_0 : decode cX1_marry 0 = .ok (.aload_n 0, 1) := dk_42 (dk_at dksX1_marry_0 0 rfl rfl)
theorem dX1_marry_1 : decode cX1_marry 1 = .ok (.iload_n 1, 1) := dk_27 (dk_at dksX1_marry_0 1 rfl rfl)
theorem dX1_marry_2 : decode cX1_marry 2 = .ok (.invokevirtual 164, 3) := dk_182 0 164 (dk_at dksX1_marry_0 2 rfl rfl)
theorem dX1_marry_5 : decode cX1_marry 5 = .ok (.pop, 1) := dk_87 (dk_at dksX1_marry_0 5 rfl rfl)
theorem dX1_marry_6 : decode cX1_marry 6 = .ok (.aload_n 0, 1) := dk_42 (dk_at dksX1_marry_0 6 rfl rfl)
theorem dX1_marry_7 : decode cX1_marry 7 = .ok (.iload_n 2, 1) := dk_28 (dk_at dksX1_marry_0 7 rfl rfl)
theorem dX1_marry_8 : decode cX1_marry 8 = .ok (.invokevirtual 164, 3) := dk_182 0 164 (dk_at dksX1_marry_0 8 rfl rfl)
theorem dX1_marry_11 : decode cX1_marry 11 = .ok (.pop, 1) := dk_87 (dk_at dksX1_marry_0 11 rfl rfl)
theorem dX1_marry_12 : decode cX1_marry 12 = .ok (.iload_n 1, 1) := dk_27 (dk_at dksX1_marry_0 12 rfl rfl)
theorem dX1_marry_13 : decode cX1_marry 13 = .ok (.iload_n 2, 1) := dk_28 (dk_at dksX1_marry_0 13 rfl rfl)
theorem dX1_marry_14 : decode cX1_marry 14 = .ok (.if_icmp .eq 7, 3) := dk_159 0 7 (dk_at dksX1_marry_0 14 rfl rfl)
theorem dX1_marry_17 : decode cX1_marry 17 = .ok (.iconst 1, 1) := dk_4 (dk_at dksX1_marry_0 17 rfl rfl)
theorem dX1_marry_18 : decode cX1_marry 18 = .ok (.goto 4, 3) := dk_167 0 4 (dk_at dksX1_marry_0 18 rfl rfl)
theorem dX1_marry_21 : decode cX1_marry 21 = .ok (.iconst 0, 1) := dk_3 (dk_at dksX1_marry_0 21 rfl rfl)
theorem dX1_marry_22 : decode cX1_marry 22 = .ok (.invokestatic 105, 3) := dk_184 0 105 (dk_at dksX1_marry_1 0 rfl rfl)
theorem dX1_marry_25 : decode cX1_marry 25 = .ok (.aload_n 0, 1) := dk_42 (dk_at dksX1_marry_1 3 rfl rfl)
theorem dX1_marry_26 : decode cX1_marry 26 = .ok (.iload_n 1, 1) := dk_27 (dk_at dksX1_marry_1 4 rfl rfl)
theorem dX1_marry_27 : decode cX1_marry 27 = .ok (.iload_n 2, 1) := dk_28 (dk_at dksX1_marry_1 5 rfl rfl)
theorem dX1_marry_28 : decode cX1_marry 28 = .ok (.invokevirtual 303, 3) := dk_182 1 47 (dk_at dksX1_marry_1 6 rfl rfl)
theorem dX1_marry_31 : decode cX1_marry 31 = .ok (.ireturn, 1) := dk_172 (dk_at dksX1_marry_1 9 rfl rfl)
abbrev cX1_nod : ByteArray := prog_1_method_45_code
def yX1_nod : MethodName := ⟨RX1, "nod", "(II)I"⟩
def dkwX1_nod_3 : List UInt8 := [172]
abbrev dktX1_nod_3 : List UInt8 := dkwX1_nod_3 ++ []
def dkwX1_nod_2 : List UInt8 := [42, 180, 0, 34, 180, 0, 183, 27, 92, 46, 28, 96, 79, 42, 180, 0, 34, 42, 180, 0, 10, 182, 0, 151]
abbrev dktX1_nod_2 : List UInt8 := dkwX1_nod_2 ++ dktX1_nod_3
def dkwX1_nod_1 : List UInt8 := [184, 0, 85, 28, 3, 16, 99, 184, 0, 137, 184, 0, 105, 42, 180, 0, 34, 42, 180, 0, 30, 182, 0, 239]
abbrev dktX1_nod_1 : List UInt8 := dkwX1_nod_1 ++ dktX1_nod_2
def dkwX1_nod_0 : List UInt8 := [42, 27, 182, 0, 164, 87, 42, 180, 0, 30, 27, 182, 0, 189, 2, 159, 0, 7, 4, 167, 0, 4, 3]
abbrev dktX1_nod_0 : List UInt8 := dkwX1_nod_0 ++ dktX1_nod_1
theorem dksX1_nod_0 : cX1_nod.data.toList.drop 0 = dktX1_nod_0 := by decide +kernel
theorem dksX1_nod_1 : cX1_nod.data.toList.drop 23 = dktX1_nod_1 := dk_seg dksX1_nod_0 23 rfl rfl
theorem dksX1_nod_2 : cX1_nod.data.toList.drop 47 = dktX1_nod_2 := dk_seg dksX1_nod_1 24 rfl rfl
theorem dksX1_nod_3 : cX1_nod.data.toList.drop 71 = dktX1_nod_3 := dk_seg dksX1_nod_2 24 rfl rfl
theorem dX1_nod_0 : decode cX1_nod 0 = .ok (.aload_n 0, 1) := dk_42 (dk_at dksX1_nod_0 0 rfl rfl)
theorem dX1_nod_1 : decode cX1_nod 1 = .ok (.iload_n 1, 1) := dk_27 (dk_at dksX1_nod_0 1 rfl rfl)
theorem dX1_nod_2 : decode cX1_nod 2 = .ok (.invokevirtual 164, 3) := dk_182 0 164 (dk_at dksX1_nod_0 2 rfl rfl)
theorem dX1_nod_5 : decode cX1_nod 5 = .ok (.pop, 1) := dk_87 (dk_at dksX1_nod_0 5 rfl rfl)
theorem dX1_nod_6 : decode cX1_nod 6 = .ok (.aload_n 0, 1) := dk_42 (dk_at dksX1_nod_0 6 rfl rfl)
theorem dX1_nod_7 : decode cX1_nod 7 = .ok (.getfield 30, 3) := dk_180 0 30 (dk_at dksX1_nod_0 7 rfl rfl)
theorem dX1_nod_10 : decode cX1_nod 10 = .ok (.iload_n 1, 1) := dk_27 (dk_at dksX1_nod_0 10 rfl rfl)
theorem dX1_nod_11 : decode cX1_nod 11 = .ok (.invokevirtual 189, 3) := dk_182 0 189 (dk_at dksX1_nod_0 11 rfl rfl)
theorem dX1_nod_14 : decode cX1_nod 14 = .ok (.iconst (-1), 1) := dk_2 (dk_at dksX1_nod_0 14 rfl rfl)
theorem dX1_nod_15 : decode cX1_nod 15 = .ok (.if_icmp .eq 7, 3) := dk_159 0 7 (dk_at dksX1_nod_0 15 rfl rfl)
theorem dX1_nod_18 : decode cX1_nod 18 = .ok (.iconst 1, 1) := dk_4 (dk_at dksX1_nod_0 18 rfl rfl)
theorem dX1_nod_19 : decode cX1_nod 19 = .ok (.goto 4, 3) := dk_167 0 4 (dk_at dksX1_nod_0 19 rfl rfl)
theorem dX1_nod_22 : decode cX1_nod 22 = .ok (.iconst 0, 1) := dk_3 (dk_at dksX1_nod_0 22 rfl rfl)
theorem dX1_nod_23 : decode cX1_nod 23 = .ok (.invokestatic 85, 3) := dk_184 0 85 (dk_at dksX1_nod_1 0 rfl rfl)
theorem dX1_nod_26 : decode cX1_nod 26 = .ok (.iload_n 2, 1) := dk_28 (dk_at dksX1_nod_1 3 rfl rfl)
theorem dX1_nod_27 : decode cX1_nod 27 = .ok (.iconst 0, 1) := dk_3 (dk_at dksX1_nod_1 4 rfl rfl)
theorem dX1_nod_28 : decode cX1_nod 28 = .ok (.bipush 99, 2) := dk_16 99 (dk_at dksX1_nod_1 5 rfl rfl)
theorem dX1_nod_30 : decode cX1_nod 30 = .ok (.invokestatic 137, 3) := dk_184 0 137 (dk_at dksX1_nod_1 7 rfl rfl)
theorem dX1_nod_33 : decode cX1_nod 33 = .ok (.invokestatic 105, 3) := dk_184 0 105 (dk_at dksX1_nod_1 10 rfl rfl)
theorem dX1_nod_36 : decode cX1_nod 36 = .ok (.aload_n 0, 1) := dk_42 (dk_at dksX1_nod_1 13 rfl rfl)
theorem dX1_nod_37 : decode cX1_nod 37 = .ok (.getfield 34, 3) := dk_180 0 34 (dk_at dksX1_nod_1 14 rfl rfl)
theorem dX1_nod_40 : decode cX1_nod 40 = .ok (.aload_n 0, 1) := dk_42 (dk_at dksX1_nod_1 17 rfl rfl)
theorem dX1_nod_41 : decode cX1_nod 41 = .ok (.getfield 30, 3) := dk_180 0 30 (dk_at dksX1_nod_1 18 rfl rfl)
theorem dX1_nod_44 : decode cX1_nod 44 = .ok (.invokevirtual 239, 3) := dk_182 0 239 (dk_at dksX1_nod_1 21 rfl rfl)
theorem dX1_nod_47 : decode cX1_nod 47 = .ok (.aload_n 0, 1) := dk_42 (dk_at dksX1_nod_2 0 rfl rfl)
theorem dX1_nod_48 : decode cX1_nod 48 = .ok (.getfield 34, 3) := dk_180 0 34 (dk_at dksX1_nod_2 1 rfl rfl)
theorem dX1_nod_51 : decode cX1_nod 51 = .ok (.getfield 183, 3) := dk_180 0 183 (dk_at dksX1_nod_2 4 rfl rfl)
theorem dX1_nod_54 : decode cX1_nod 54 = .ok (.iload_n 1, 1) := dk_27 (dk_at dksX1_nod_2 7 rfl rfl)
theorem dX1_nod_55 : decode cX1_nod 55 = .ok (.dup2, 1) := dk_92 (dk_at dksX1_nod_2 8 rfl rfl)
theorem dX1_nod_56 : decode cX1_nod 56 = .ok (.iaload, 1) := dk_46 (dk_at dksX1_nod_2 9 rfl rfl)
theorem dX1_nod_57 : decode cX1_nod 57 = .ok (.iload_n 2, 1) := dk_28 (dk_at dksX1_nod_2 10 rfl rfl)
theorem dX1_nod_58 : decode cX1_nod 58 = .ok (.iadd, 1) := dk_96 (dk_at dksX1_nod_2 11 rfl rfl)
theorem dX1_nod_59 : decode cX1_nod 59 = .ok (.iastore, 1) := dk_79 (dk_at dksX1_nod_2 12 rfl rfl)
theorem dX1_nod_60 : decode cX1_nod 60 = .ok (.aload_n 0, 1) := dk_42 (dk_at dksX1_nod_2 13 rfl rfl)
theorem dX1_nod_61 : decode cX1_nod 61 = .ok (.getfield 34, 3) := dk_180 0 34 (dk_at dksX1_nod_2 14 rfl rfl)
theorem dX1_nod_64 : decode cX1_nod 64 = .ok (.aload_n 0, 1) := dk_42 (dk_at dksX1_nod_2 17 rfl rfl)
theorem dX1_nod_65 : decode cX1_nod 65 = .ok (.getfield 10, 3) := dk_180 0 10 (dk_at dksX1_nod_2 18 rfl rfl)
theorem dX1_nod_68 : decode cX1_nod 68 = .ok (.invokevirtual 151, 3) := dk_182 0 151 (dk_at dksX1_nod_2 21 rfl rfl)
theorem dX1_nod_71 : decode cX1_nod 71 = .ok (.ireturn, 1) := dk_172 (dk_at dksX1_nod_3 0 rfl rfl)
abbrev cX1_out : ByteArray := prog_1_method_48_code
def yX1_out : MethodName := ⟨RX1, "out", "(I)I"⟩
def dkwX1_out_4 : List UInt8 := [180, 0, 10, 182, 0, 147, 153, 0, 6, 21, 4, 62, 132, 4, 1, 167, 255, 191, 29, 172]
abbrev dktX1_out_4 : List UInt8 := dkwX1_out_4 ++ []
def dkwX1_out_3 : List UInt8 := [184, 1, 12, 161, 0, 6, 167, 0, 30, 42, 21, 4, 4, 27, 120, 128, 182, 1, 56, 42, 180, 0, 34, 42]
abbrev dktX1_out_3 : List UInt8 := dkwX1_out_3 ++ dktX1_out_4
def dkwX1_out_2 : List UInt8 := [28, 163, 0, 65, 21, 4, 28, 2, 130, 126, 154, 0, 50, 29, 2, 159, 0, 18, 21, 4, 184, 1, 12, 29]
abbrev dktX1_out_2 : List UInt8 := dkwX1_out_2 ++ dktX1_out_3
def dkwX1_out_1 : List UInt8 := [184, 0, 85, 42, 180, 0, 30, 182, 1, 29, 4, 27, 120, 2, 130, 126, 61, 2, 62, 3, 54, 4, 21, 4]
abbrev dktX1_out_1 : List UInt8 := dkwX1_out_1 ++ dktX1_out_2
def dkwX1_out_0 : List UInt8 := [42, 27, 182, 0, 164, 87, 42, 180, 0, 30, 27, 182, 0, 189, 2, 159, 0, 7, 4, 167, 0, 4, 3]
abbrev dktX1_out_0 : List UInt8 := dkwX1_out_0 ++ dktX1_out_1
theorem dksX1_out_0 : cX1_out.data.toList.drop 0 = dktX1_out_0 := by decide +kernel
theorem dksX1_out_1 : cX1_out.data.toList.drop 23 = dktX1_out_1 := dk_seg dksX1_out_0 23 rfl rfl
theorem dksX1_out_2 : cX1_out.data.toList.drop 47 = dktX1_out_2 := dk_seg dksX1_out_1 24 rfl rfl
theorem dksX1_out_3 : cX1_out.data.toList.drop 71 = dktX1_out_3 := dk_seg dksX1_out_2 24 rfl rfl
theorem dksX1_out_4 : cX1_out.data.toList.drop 95 = dktX1_out_4 := dk_seg dksX1_out_3 24 rfl rfl
theorem dX1_out_0 : decode cX1_out 0 = .ok (.aload_n 0, 1) := dk_42 (dk_at dksX1_out_0 0 rfl rfl)
theorem dX1_out_1 : decode cX1_out 1 = .ok (.iload_n 1, 1) := dk_27 (dk_at dksX1_out_0 1 rfl rfl)
theorem dX1_out_2 : decode cX1_out 2 = .ok (.invokevirtual 164, 3) := dk_182 0 164 (dk_at dksX1_out_0 2 rfl rfl)
theorem dX1_out_5 : decode cX1_out 5 = .ok (.pop, 1) := dk_87 (dk_at dksX1_out_0 5 rfl rfl)
theorem dX1_out_6 : decode cX1_out 6 = .ok (.aload_n 0, 1) := dk_42 (dk_at dksX1_out_0 6 rfl rfl)
theorem dX1_out_7 : decode cX1_out 7 = .ok (.getfield 30, 3) := dk_180 0 30 (dk_at dksX1_out_0 7 rfl rfl)
theorem dX1_out_10 : decode cX1_out 10 = .ok (.iload_n 1, 1) := dk_27 (dk_at dksX1_out_0 10 rfl rfl)
theorem dX1_out_11 : decode cX1_out 11 = .ok (.invokevirtual 189, 3) := dk_182 0 189 (dk_at dksX1_out_0 11 rfl rfl)
theorem dX1_out_14 : decode cX1_out 14 = .ok (.iconst (-1), 1) := dk_2 (dk_at dksX1_out_0 14 rfl rfl)
theorem dX1_out_15 : decode cX1_out 15 = .ok (.if_icmp .eq 7, 3) := dk_159 0 7 (dk_at dksX1_out_0 15 rfl rfl)
theorem dX1_out_18 : decode cX1_out 18 = .ok (.iconst 1, 1) := dk_4 (dk_at dksX1_out_0 18 rfl rfl)
theorem dX1_out_19 : decode cX1_out 19 = .ok (.goto 4, 3) := dk_167 0 4 (dk_at dksX1_out_0 19 rfl rfl)
theorem dX1_out_22 : decode cX1_out 22 = .ok (.iconst 0, 1) := dk_3 (dk_at dksX1_out_0 22 rfl rfl)
theorem dX1_out_23 : decode cX1_out 23 = .ok (.invokestatic 85, 3) := dk_184 0 85 (dk_at dksX1_out_1 0 rfl rfl)
theorem dX1_out_26 : decode cX1_out 26 = .ok (.aload_n 0, 1) := dk_42 (dk_at dksX1_out_1 3 rfl rfl)
theorem dX1_out_27 : decode cX1_out 27 = .ok (.getfield 30, 3) := dk_180 0 30 (dk_at dksX1_out_1 4 rfl rfl)
theorem dX1_out_30 : decode cX1_out 30 = .ok (.invokevirtual 285, 3) := dk_182 1 29 (dk_at dksX1_out_1 7 rfl rfl)
theorem dX1_out_33 : decode cX1_out 33 = .ok (.iconst 1, 1) := dk_4 (dk_at dksX1_out_1 10 rfl rfl)
theorem dX1_out_34 : decode cX1_out 34 = .ok (.iload_n 1, 1) := dk_27 (dk_at dksX1_out_1 11 rfl rfl)
theorem dX1_out_35 : decode cX1_out 35 = .ok (.ishl, 1) := dk_120 (dk_at dksX1_out_1 12 rfl rfl)
theorem dX1_out_36 : decode cX1_out 36 = .ok (.iconst (-1), 1) := dk_2 (dk_at dksX1_out_1 13 rfl rfl)
theorem dX1_out_37 : decode cX1_out 37 = .ok (.ixor, 1) := dk_130 (dk_at dksX1_out_1 14 rfl rfl)
theorem dX1_out_38 : decode cX1_out 38 = .ok (.iand, 1) := dk_126 (dk_at dksX1_out_1 15 rfl rfl)
theorem dX1_out_39 : decode cX1_out 39 = .ok (.istore_n 2, 1) := dk_61 (dk_at dksX1_out_1 16 rfl rfl)
theorem dX1_out_40 : decode cX1_out 40 = .ok (.iconst (-1), 1) := dk_2 (dk_at dksX1_out_1 17 rfl rfl)
theorem dX1_out_41 : decode cX1_out 41 = .ok (.istore_n 3, 1) := dk_62 (dk_at dksX1_out_1 18 rfl rfl)
theorem dX1_out_42 : decode cX1_out 42 = .ok (.iconst 0, 1) := dk_3 (dk_at dksX1_out_1 19 rfl rfl)
theorem dX1_out_43 : decode cX1_out 43 = .ok (.istore 4, 2) := dk_54 4 (dk_at dksX1_out_1 20 rfl rfl)
theorem dX1_out_45 : decode cX1_out 45 = .ok (.iload 4, 2) := dk_21 4 (dk_at dksX1_out_1 22 rfl rfl)
theorem dX1_out_47 : decode cX1_out 47 = .ok (.iload_n 2, 1) := dk_28 (dk_at dksX1_out_2 0 rfl rfl)
theorem dX1_out_48 : decode cX1_out 48 = .ok (.if_icmp .gt 65, 3) := dk_163 0 65 (dk_at dksX1_out_2 1 rfl rfl)
theorem dX1_out_51 : decode cX1_out 51 = .ok (.iload 4, 2) := dk_21 4 (dk_at dksX1_out_2 4 rfl rfl)
theorem dX1_out_53 : decode cX1_out 53 = .ok (.iload_n 2, 1) := dk_28 (dk_at dksX1_out_2 6 rfl rfl)
theorem dX1_out_54 : decode cX1_out 54 = .ok (.iconst (-1), 1) := dk_2 (dk_at dksX1_out_2 7 rfl rfl)
theorem dX1_out_55 : decode cX1_out 55 = .ok (.ixor, 1) := dk_130 (dk_at dksX1_out_2 8 rfl rfl)
theorem dX1_out_56 : decode cX1_out 56 = .ok (.iand, 1) := dk_126 (dk_at dksX1_out_2 9 rfl rfl)
theorem dX1_out_57 : decode cX1_out 57 = .ok (.ifCond .ne 50, 3) := dk_154 0 50 (dk_at dksX1_out_2 10 rfl rfl)
theorem dX1_out_60 : decode cX1_out 60 = .ok (.iload_n 3, 1) := dk_29 (dk_at dksX1_out_2 13 rfl rfl)
theorem dX1_out_61 : decode cX1_out 61 = .ok (.iconst (-1), 1) := dk_2 (dk_at dksX1_out_2 14 rfl rfl)
theorem dX1_out_62 : decode cX1_out 62 = .ok (.if_icmp .eq 18, 3) := dk_159 0 18 (dk_at dksX1_out_2 15 rfl rfl)
theorem dX1_out_65 : decode cX1_out 65 = .ok (.iload 4, 2) := dk_21 4 (dk_at dksX1_out_2 18 rfl rfl)
theorem dX1_out_67 : decode cX1_out 67 = .ok (.invokestatic 268, 3) := dk_184 1 12 (dk_at dksX1_out_2 20 rfl rfl)
theorem dX1_out_70 : decode cX1_out 70 = .ok (.iload_n 3, 1) := dk_29 (dk_at dksX1_out_2 23 rfl rfl)
theorem dX1_out_71 : decode cX1_out 71 = .ok (.invokestatic 268, 3) := dk_184 1 12 (dk_at dksX1_out_3 0 rfl rfl)
theorem dX1_out_74 : decode cX1_out 74 = .ok (.if_icmp .lt 6, 3) := dk_161 0 6 (dk_at dksX1_out_3 3 rfl rfl)
theorem dX1_out_77 : decode cX1_out 77 = .ok (.goto 30, 3) := dk_167 0 30 (dk_at dksX1_out_3 6 rfl rfl)
theorem dX1_out_80 : decode cX1_out 80 = .ok (.aload_n 0, 1) := dk_42 (dk_at dksX1_out_3 9 rfl rfl)
theorem dX1_out_81 : decode cX1_out 81 = .ok (.iload 4, 2) := dk_21 4 (dk_at dksX1_out_3 10 rfl rfl)
theorem dX1_out_83 : decode cX1_out 83 = .ok (.iconst 1, 1) := dk_4 (dk_at dksX1_out_3 12 rfl rfl)
theorem dX1_out_84 : decode cX1_out 84 = .ok (.iload_n 1, 1) := dk_27 (dk_at dksX1_out_3 13 rfl rfl)
theorem dX1_out_85 : decode cX1_out 85 = .ok (.ishl, 1) := dk_120 (dk_at dksX1_out_3 14 rfl rfl)
theorem dX1_out_86 : decode cX1_out 86 = .ok (.ior, 1) := dk_128 (dk_at dksX1_out_3 15 rfl rfl)
theorem dX1_out_87 : decode cX1_out 87 = .ok (.invokevirtual 312, 3) := dk_182 1 56 (dk_at dksX1_out_3 16 rfl rfl)
theorem dX1_out_90 : decode cX1_out 90 = .ok (.aload_n 0, 1) := dk_42 (dk_at dksX1_out_3 19 rfl rfl)
theorem dX1_out_91 : decode cX1_out 91 = .ok (.getfield 34, 3) := dk_180 0 34 (dk_at dksX1_out_3 20 rfl rfl)
theorem dX1_out_94 : decode cX1_out 94 = .ok (.aload_n 0, 1) := dk_42 (dk_at dksX1_out_3 23 rfl rfl)
theorem dX1_out_95 : decode cX1_out 95 = .ok (.getfield 10, 3) := dk_180 0 10 (dk_at dksX1_out_4 0 rfl rfl)
theorem dX1_out_98 : decode cX1_out 98 = .ok (.invokevirtual 147, 3) := dk_182 0 147 (dk_at dksX1_out_4 3 rfl rfl)
theorem dX1_out_101 : decode cX1_out 101 = .ok (.ifCond .eq 6, 3) := dk_153 0 6 (dk_at dksX1_out_4 6 rfl rfl)
theorem dX1_out_104 : decode cX1_out 104 = .ok (.iload 4, 2) := dk_21 4 (dk_at dksX1_out_4 9 rfl rfl)
theorem dX1_out_106 : decode cX1_out 106 = .ok (.istore_n 3, 1) := dk_62 (dk_at dksX1_out_4 11 rfl rfl)
theorem dX1_out_107 : decode cX1_out 107 = .ok (.iinc 4 1, 3) := dk_132 4 1 (dk_at dksX1_out_4 12 rfl rfl)
theorem dX1_out_110 : decode cX1_out 110 = .ok (.goto (-65), 3) := dk_167 255 191 (dk_at dksX1_out_4 15 rfl rfl)
theorem dX1_out_113 : decode cX1_out 113 = .ok (.iload_n 3, 1) := dk_29 (dk_at dksX1_out_4 18 rfl rfl)
theorem dX1_out_114 : decode cX1_out 114 = .ok (.ireturn, 1) := dk_172 (dk_at dksX1_out_4 19 rfl rfl)
abbrev cX1_lifted : ByteArray := prog_1_method_51_code
def yX1_lifted : MethodName := ⟨RX1, "lifted", "(II)J"⟩
def dkwX1_lifted_1 : List UInt8 := [4, 167, 0, 4, 3, 184, 0, 105, 42, 42, 180, 0, 30, 182, 1, 29, 27, 28, 182, 1, 8, 173]
abbrev dktX1_lifted_1 : List UInt8 := dkwX1_lifted_1 ++ []
def dkwX1_lifted_0 : List UInt8 := [27, 155, 0, 27, 27, 4, 42, 182, 0, 83, 120, 162, 0, 17, 28, 3, 16, 10, 184, 0, 137, 153, 0, 7]
abbrev dktX1_lifted_0 : List UInt8 := dkwX1_lifted_0 ++ dktX1_lifted_1
theorem dksX1_lifted_0 : cX1_lifted.data.toList.drop 0 = dktX1_lifted_0 := by decide +kernel
theorem dksX1_lifted_1 : cX1_lifted.data.toList.drop 24 = dktX1_lifted_1 := dk_seg dksX1_lifted_0 24 rfl rfl
theorem dX1_lifted_0 : decode cX1_lifted 0 = .ok (.iload_n 1, 1) := dk_27 (dk_at dksX1_lifted_0 0 rfl rfl)
theorem dX1_lifted_1 : decode cX1_lifted 1 = .ok (.ifCond .lt 27, 3) := dk_155 0 27 (dk_at dksX1_lifted_0 1 rfl rfl)
theorem dX1_lifted_4 : decode cX1_lifted 4 = .ok (.iload_n 1, 1) := dk_27 (dk_at dksX1_lifted_0 4 rfl rfl)
theorem dX1_lifted_5 : decode cX1_lifted 5 = .ok (.iconst 1, 1) := dk_4 (dk_at dksX1_lifted_0 5 rfl rfl)
theorem dX1_lifted_6 : decode cX1_lifted 6 = .ok (.aload_n 0, 1) := dk_42 (dk_at dksX1_lifted_0 6 rfl rfl)
theorem dX1_lifted_7 : decode cX1_lifted 7 = .ok (.invokevirtual 83, 3) := dk_182 0 83 (dk_at dksX1_lifted_0 7 rfl rfl)
theorem dX1_lifted_10 : decode cX1_lifted 10 = .ok (.ishl, 1) := dk_120 (dk_at dksX1_lifted_0 10 rfl rfl)
theorem dX1_lifted_11 : decode cX1_lifted 11 = .ok (.if_icmp .ge 17, 3) := dk_162 0 17 (dk_at dksX1_lifted_0 11 rfl rfl)
theorem dX1_lifted_14 : decode cX1_lifted 14 = .ok (.iload_n 2, 1) := dk_28 (dk_at dksX1_lifted_0 14 rfl rfl)
theorem dX1_lifted_15 : decode cX1_lifted 15 = .ok (.iconst 0, 1) := dk_3 (dk_at dksX1_lifted_0 15 rfl rfl)
theorem dX1_lifted_16 : decode cX1_lifted 16 = .ok (.bipush 10, 2) := dk_16 10 (dk_at dksX1_lifted_0 16 rfl rfl)
theorem dX1_lifted_18 : decode cX1_lifted 18 = .ok (.invokestatic 137, 3) := dk_184 0 137 (dk_at dksX1_lifted_0 18 rfl rfl)
theorem dX1_lifted_21 : decode cX1_lifted 21 = .ok (.ifCond .eq 7, 3) := dk_153 0 7 (dk_at dksX1_lifted_0 21 rfl rfl)
theorem dX1_lifted_24 : decode cX1_lifted 24 = .ok (.iconst 1, 1) := dk_4 (dk_at dksX1_lifted_1 0 rfl rfl)
theorem dX1_lifted_25 : decode cX1_lifted 25 = .ok (.goto 4, 3) := dk_167 0 4 (dk_at dksX1_lifted_1 1 rfl rfl)
theorem dX1_lifted_28 : decode cX1_lifted 28 = .ok (.iconst 0, 1) := dk_3 (dk_at dksX1_lifted_1 4 rfl rfl)
theorem dX1_lifted_29 : decode cX1_lifted 29 = .ok (.invokestatic 105, 3) := dk_184 0 105 (dk_at dksX1_lifted_1 5 rfl rfl)
theorem dX1_lifted_32 : decode cX1_lifted 32 = .ok (.aload_n 0, 1) := dk_42 (dk_at dksX1_lifted_1 8 rfl rfl)
theorem dX1_lifted_33 : decode cX1_lifted 33 = .ok (.aload_n 0, 1) := dk_42 (dk_at dksX1_lifted_1 9 rfl rfl)
theorem dX1_lifted_34 : decode cX1_lifted 34 = .ok (.getfield 30, 3) := dk_180 0 30 (dk_at dksX1_lifted_1 10 rfl rfl)
theorem dX1_lifted_37 : decode cX1_lifted 37 = .ok (.invokevirtual 285, 3) := dk_182 1 29 (dk_at dksX1_lifted_1 13 rfl rfl)
theorem dX1_lifted_40 : decode cX1_lifted 40 = .ok (.iload_n 1, 1) := dk_27 (dk_at dksX1_lifted_1 16 rfl rfl)
theorem dX1_lifted_41 : decode cX1_lifted 41 = .ok (.iload_n 2, 1) := dk_28 (dk_at dksX1_lifted_1 17 rfl rfl)
theorem dX1_lifted_42 : decode cX1_lifted 42 = .ok (.invokevirtual 264, 3) := dk_182 1 8 (dk_at dksX1_lifted_1 18 rfl rfl)
theorem dX1_lifted_45 : decode cX1_lifted 45 = .ok (.lreturn, 1) := dk_173 (dk_at dksX1_lifted_1 21 rfl rfl)
abbrev cX1_slack : ByteArray := prog_1_method_54_code
def yX1_slack : MethodName := ⟨RX1, "slack", "(I)I"⟩
def dkwX1_slack_1 : List UInt8 := [180, 0, 10, 27, 182, 0, 198, 100, 172]
abbrev dktX1_slack_1 : List UInt8 := dkwX1_slack_1 ++ []
def dkwX1_slack_0 : List UInt8 := [42, 27, 182, 0, 192, 42, 180, 0, 30, 42, 180, 0, 10, 27, 182, 0, 202, 42, 180, 0, 30, 42]
abbrev dktX1_slack_0 : List UInt8 := dkwX1_slack_0 ++ dktX1_slack_1
theorem dksX1_slack_0 : cX1_slack.data.toList.drop 0 = dktX1_slack_0 := by decide +kernel
theorem dksX1_slack_1 : cX1_slack.data.toList.drop 22 = dktX1_slack_1 := dk_seg dksX1_slack_0 22 rfl rfl
theorem dX1_slack_0 : decode cX1_slack 0 = .ok (.aload_n 0, 1) := dk_42 (dk_at dksX1_slack_0 0 rfl rfl)
theorem dX1_slack_1 : decode cX1_slack 1 = .ok (.iload_n 1, 1) := dk_27 (dk_at dksX1_slack_0 1 rfl rfl)
theorem dX1_slack_2 : decode cX1_slack 2 = .ok (.invokevirtual 192, 3) := dk_182 0 192 (dk_at dksX1_slack_0 2 rfl rfl)
theorem dX1_slack_5 : decode cX1_slack 5 = .ok (.aload_n 0, 1) := dk_42 (dk_at dksX1_slack_0 5 rfl rfl)
theorem dX1_slack_6 : decode cX1_slack 6 = .ok (.getfield 30, 3) := dk_180 0 30 (dk_at dksX1_slack_0 6 rfl rfl)
theorem dX1_slack_9 : decode cX1_slack 9 = .ok (.aload_n 0, 1) := dk_42 (dk_at dksX1_slack_0 9 rfl rfl)
theorem dX1_slack_10 : decode cX1_slack 10 = .ok (.getfield 10, 3) := dk_180 0 10 (dk_at dksX1_slack_0 10 rfl rfl)
theorem dX1_slack_13 : decode cX1_slack 13 = .ok (.iload_n 1, 1) := dk_27 (dk_at dksX1_slack_0 13 rfl rfl)
theorem dX1_slack_14 : decode cX1_slack 14 = .ok (.invokevirtual 202, 3) := dk_182 0 202 (dk_at dksX1_slack_0 14 rfl rfl)
theorem dX1_slack_17 : decode cX1_slack 17 = .ok (.aload_n 0, 1) := dk_42 (dk_at dksX1_slack_0 17 rfl rfl)
theorem dX1_slack_18 : decode cX1_slack 18 = .ok (.getfield 30, 3) := dk_180 0 30 (dk_at dksX1_slack_0 18 rfl rfl)
theorem dX1_slack_21 : decode cX1_slack 21 = .ok (.aload_n 0, 1) := dk_42 (dk_at dksX1_slack_0 21 rfl rfl)
theorem dX1_slack_22 : decode cX1_slack 22 = .ok (.getfield 10, 3) := dk_180 0 10 (dk_at dksX1_slack_1 0 rfl rfl)
theorem dX1_slack_25 : decode cX1_slack 25 = .ok (.iload_n 1, 1) := dk_27 (dk_at dksX1_slack_1 3 rfl rfl)
theorem dX1_slack_26 : decode cX1_slack 26 = .ok (.invokevirtual 198, 3) := dk_182 0 198 (dk_at dksX1_slack_1 4 rfl rfl)
theorem dX1_slack_29 : decode cX1_slack 29 = .ok (.isub, 1) := dk_100 (dk_at dksX1_slack_1 7 rfl rfl)
theorem dX1_slack_30 : decode cX1_slack 30 = .ok (.ireturn, 1) := dk_172 (dk_at dksX1_slack_1 8 rfl rfl)
abbrev cX1_broken : ByteArray := prog_1_method_55_code
def yX1_broken : MethodName := ⟨RX1, "broken", "(I)I"⟩
def dkwX1_broken_1 : List UInt8 := [180, 0, 34, 89, 180, 0, 161, 27, 96, 181, 0, 161, 42, 180, 0, 34, 42, 180, 0, 10, 182, 0, 151, 172]
abbrev dktX1_broken_1 : List UInt8 := dkwX1_broken_1 ++ []
def dkwX1_broken_0 : List UInt8 := [27, 3, 16, 99, 184, 0, 137, 184, 0, 105, 42, 180, 0, 34, 42, 180, 0, 30, 182, 0, 239, 42]
abbrev dktX1_broken_0 : List UInt8 := dkwX1_broken_0 ++ dktX1_broken_1
theorem dksX1_broken_0 : cX1_broken.data.toList.drop 0 = dktX1_broken_0 := by decide +kernel
theorem dksX1_broken_1 : cX1_broken.data.toList.drop 22 = dktX1_broken_1 := dk_seg dksX1_broken_0 22 rfl rfl
theorem dX1_broken_0 : decode cX1_broken 0 = .ok (.iload_n 1, 1) := dk_27 (dk_at dksX1_broken_0 0 rfl rfl)
theorem dX1_broken_1 : decode cX1_broken 1 = .ok (.iconst 0, 1) := dk_3 (dk_at dksX1_broken_0 1 rfl rfl)
theorem dX1_broken_2 : decode cX1_broken 2 = .ok (.bipush 99, 2) := dk_16 99 (dk_at dksX1_broken_0 2 rfl rfl)
theorem dX1_broken_4 : decode cX1_broken 4 = .ok (.invokestatic 137, 3) := dk_184 0 137 (dk_at dksX1_broken_0 4 rfl rfl)
theorem dX1_broken_7 : decode cX1_broken 7 = .ok (.invokestatic 105, 3) := dk_184 0 105 (dk_at dksX1_broken_0 7 rfl rfl)
theorem dX1_broken_10 : decode cX1_broken 10 = .ok (.aload_n 0, 1) := dk_42 (dk_at dksX1_broken_0 10 rfl rfl)
theorem dX1_broken_11 : decode cX1_broken 11 = .ok (.getfield 34, 3) := dk_180 0 34 (dk_at dksX1_broken_0 11 rfl rfl)
theorem dX1_broken_14 : decode cX1_broken 14 = .ok (.aload_n 0, 1) := dk_42 (dk_at dksX1_broken_0 14 rfl rfl)
theorem dX1_broken_15 : decode cX1_broken 15 = .ok (.getfield 30, 3) := dk_180 0 30 (dk_at dksX1_broken_0 15 rfl rfl)
theorem dX1_broken_18 : decode cX1_broken 18 = .ok (.invokevirtual 239, 3) := dk_182 0 239 (dk_at dksX1_broken_0 18 rfl rfl)
theorem dX1_broken_21 : decode cX1_broken 21 = .ok (.aload_n 0, 1) := dk_42 (dk_at dksX1_broken_0 21 rfl rfl)
theorem dX1_broken_22 : decode cX1_broken 22 = .ok (.getfield 34, 3) := dk_180 0 34 (dk_at dksX1_broken_1 0 rfl rfl)
theorem dX1_broken_25 : decode cX1_broken 25 = .ok (.dup, 1) := dk_89 (dk_at dksX1_broken_1 3 rfl rfl)
theorem dX1_broken_26 : decode cX1_broken 26 = .ok (.getfield 161, 3) := dk_180 0 161 (dk_at dksX1_broken_1 4 rfl rfl)
theorem dX1_broken_29 : decode cX1_broken 29 = .ok (.iload_n 1, 1) := dk_27 (dk_at dksX1_broken_1 7 rfl rfl)
theorem dX1_broken_30 : decode cX1_broken 30 = .ok (.iadd, 1) := dk_96 (dk_at dksX1_broken_1 8 rfl rfl)
theorem dX1_broken_31 : decode cX1_broken 31 = .ok (.putfield 161, 3) := dk_181 0 161 (dk_at dksX1_broken_1 9 rfl rfl)
theorem dX1_broken_34 : decode cX1_broken 34 = .ok (.aload_n 0, 1) := dk_42 (dk_at dksX1_broken_1 12 rfl rfl)
theorem dX1_broken_35 : decode cX1_broken 35 = .ok (.getfield 34, 3) := dk_180 0 34 (dk_at dksX1_broken_1 13 rfl rfl)
theorem dX1_broken_38 : decode cX1_broken 38 = .ok (.aload_n 0, 1) := dk_42 (dk_at dksX1_broken_1 16 rfl rfl)
theorem dX1_broken_39 : decode cX1_broken 39 = .ok (.getfield 10, 3) := dk_180 0 10 (dk_at dksX1_broken_1 17 rfl rfl)
theorem dX1_broken_42 : decode cX1_broken 42 = .ok (.invokevirtual 151, 3) := dk_182 0 151 (dk_at dksX1_broken_1 20 rfl rfl)
theorem dX1_broken_45 : decode cX1_broken 45 = .ok (.ireturn, 1) := dk_172 (dk_at dksX1_broken_1 23 rfl rfl)
abbrev cX1_top : ByteArray := prog_1_method_57_code
def yX1_top : MethodName := ⟨RX1, "top", "(I)I"⟩
def dkwX1_top_3 : List UInt8 := [172]
abbrev dktX1_top_3 : List UInt8 := dkwX1_top_3 ++ []
def dkwX1_top_2 : List UInt8 := [180, 0, 34, 180, 0, 183, 42, 180, 0, 34, 180, 0, 195, 42, 180, 0, 34, 180, 0, 95, 4, 100, 46, 46]
abbrev dktX1_top_2 : List UInt8 := dkwX1_top_2 ++ dktX1_top_3
def dkwX1_top_1 : List UInt8 := [180, 0, 34, 42, 180, 0, 30, 182, 0, 239, 42, 180, 0, 34, 42, 180, 0, 10, 27, 182, 0, 233, 87, 42]
abbrev dktX1_top_1 : List UInt8 := dkwX1_top_1 ++ dktX1_top_2
def dkwX1_top_0 : List UInt8 := [27, 3, 17, 3, 231, 184, 0, 137, 184, 0, 105, 42, 180, 0, 30, 180, 0, 95, 154, 0, 5, 2, 172, 42]
abbrev dktX1_top_0 : List UInt8 := dkwX1_top_0 ++ dktX1_top_1
theorem dksX1_top_0 : cX1_top.data.toList.drop 0 = dktX1_top_0 := by decide +kernel
theorem dksX1_top_1 : cX1_top.data.toList.drop 24 = dktX1_top_1 := dk_seg dksX1_top_0 24 rfl rfl
theorem dksX1_top_2 : cX1_top.data.toList.drop 48 = dktX1_top_2 := dk_seg dksX1_top_1 24 rfl rfl
theorem dksX1_top_3 : cX1_top.data.toList.drop 72 = dktX1_top_3 := dk_seg dksX1_top_2 24 rfl rfl
theorem dX1_top_0 : decode cX1_top 0 = .ok (.iload_n 1, 1) := dk_27 (dk_at dksX1_top_0 0 rfl rfl)
theorem dX1_top_1 : decode cX1_top 1 = .ok (.iconst 0, 1) := dk_3 (dk_at dksX1_top_0 1 rfl rfl)
theorem dX1_top_2 : decode cX1_top 2 = .ok (.sipush 999, 3) := dk_17 3 231 (dk_at dksX1_top_0 2 rfl rfl)
theorem dX1_top_5 : decode cX1_top 5 = .ok (.invokestatic 137, 3) := dk_184 0 137 (dk_at dksX1_top_0 5 rfl rfl)
theorem dX1_top_8 : decode cX1_top 8 = .ok (.invokestatic 105, 3) := dk_184 0 105 (dk_at dksX1_top_0 8 rfl rfl)
theorem dX1_top_11 : decode cX1_top 11 = .ok (.aload_n 0, 1) := dk_42 (dk_at dksX1_top_0 11 rfl rfl)
theorem dX1_top_12 : decode cX1_top 12 = .ok (.getfield 30, 3) := dk_180 0 30 (dk_at dksX1_top_0 12 rfl rfl)
theorem dX1_top_15 : decode cX1_top 15 = .ok (.getfield 95, 3) := dk_180 0 95 (dk_at dksX1_top_0 15 rfl rfl)
theorem dX1_top_18 : decode cX1_top 18 = .ok (.ifCond .ne 5, 3) := dk_154 0 5 (dk_at dksX1_top_0 18 rfl rfl)
theorem dX1_top_21 : decode cX1_top 21 = .ok (.iconst (-1), 1) := dk_2 (dk_at dksX1_top_0 21 rfl rfl)
theorem dX1_top_22 : decode cX1_top 22 = .ok (.ireturn, 1) := dk_172 (dk_at dksX1_top_0 22 rfl rfl)
theorem dX1_top_23 : decode cX1_top 23 = .ok (.aload_n 0, 1) := dk_42 (dk_at dksX1_top_0 23 rfl rfl)
theorem dX1_top_24 : decode cX1_top 24 = .ok (.getfield 34, 3) := dk_180 0 34 (dk_at dksX1_top_1 0 rfl rfl)
theorem dX1_top_27 : decode cX1_top 27 = .ok (.aload_n 0, 1) := dk_42 (dk_at dksX1_top_1 3 rfl rfl)
theorem dX1_top_28 : decode cX1_top 28 = .ok (.getfield 30, 3) := dk_180 0 30 (dk_at dksX1_top_1 4 rfl rfl)
theorem dX1_top_31 : decode cX1_top 31 = .ok (.invokevirtual 239, 3) := dk_182 0 239 (dk_at dksX1_top_1 7 rfl rfl)
theorem dX1_top_34 : decode cX1_top 34 = .ok (.aload_n 0, 1) := dk_42 (dk_at dksX1_top_1 10 rfl rfl)
theorem dX1_top_35 : decode cX1_top 35 = .ok (.getfield 34, 3) := dk_180 0 34 (dk_at dksX1_top_1 11 rfl rfl)
theorem dX1_top_38 : decode cX1_top 38 = .ok (.aload_n 0, 1) := dk_42 (dk_at dksX1_top_1 14 rfl rfl)
theorem dX1_top_39 : decode cX1_top 39 = .ok (.getfield 10, 3) := dk_180 0 10 (dk_at dksX1_top_1 15 rfl rfl)
theorem dX1_top_42 : decode cX1_top 42 = .ok (.iload_n 1, 1) := dk_27 (dk_at dksX1_top_1 18 rfl rfl)
theorem dX1_top_43 : decode cX1_top 43 = .ok (.invokevirtual 233, 3) := dk_182 0 233 (dk_at dksX1_top_1 19 rfl rfl)
theorem dX1_top_46 : decode cX1_top 46 = .ok (.pop, 1) := dk_87 (dk_at dksX1_top_1 22 rfl rfl)
theorem dX1_top_47 : decode cX1_top 47 = .ok (.aload_n 0, 1) := dk_42 (dk_at dksX1_top_1 23 rfl rfl)
theorem dX1_top_48 : decode cX1_top 48 = .ok (.getfield 34, 3) := dk_180 0 34 (dk_at dksX1_top_2 0 rfl rfl)
theorem dX1_top_51 : decode cX1_top 51 = .ok (.getfield 183, 3) := dk_180 0 183 (dk_at dksX1_top_2 3 rfl rfl)
theorem dX1_top_54 : decode cX1_top 54 = .ok (.aload_n 0, 1) := dk_42 (dk_at dksX1_top_2 6 rfl rfl)
theorem dX1_top_55 : decode cX1_top 55 = .ok (.getfield 34, 3) := dk_180 0 34 (dk_at dksX1_top_2 7 rfl rfl)
theorem dX1_top_58 : decode cX1_top 58 = .ok (.getfield 195, 3) := dk_180 0 195 (dk_at dksX1_top_2 10 rfl rfl)
theorem dX1_top_61 : decode cX1_top 61 = .ok (.aload_n 0, 1) := dk_42 (dk_at dksX1_top_2 13 rfl rfl)
theorem dX1_top_62 : decode cX1_top 62 = .ok (.getfield 34, 3) := dk_180 0 34 (dk_at dksX1_top_2 14 rfl rfl)
theorem dX1_top_65 : decode cX1_top 65 = .ok (.getfield 95, 3) := dk_180 0 95 (dk_at dksX1_top_2 17 rfl rfl)
theorem dX1_top_68 : decode cX1_top 68 = .ok (.iconst 1, 1) := dk_4 (dk_at dksX1_top_2 20 rfl rfl)
theorem dX1_top_69 : decode cX1_top 69 = .ok (.isub, 1) := dk_100 (dk_at dksX1_top_2 21 rfl rfl)
theorem dX1_top_70 : decode cX1_top 70 = .ok (.iaload, 1) := dk_46 (dk_at dksX1_top_2 22 rfl rfl)
theorem dX1_top_71 : decode cX1_top 71 = .ok (.iaload, 1) := dk_46 (dk_at dksX1_top_2 23 rfl rfl)
theorem dX1_top_72 : decode cX1_top 72 = .ok (.ireturn, 1) := dk_172 (dk_at dksX1_top_3 0 rfl rfl)
abbrev cX1_which : ByteArray := prog_1_method_64_code
def yX1_which : MethodName := ⟨RX1, "which", "(I)I"⟩
def dkwX1_which_5 : List UInt8 := [167, 0, 4, 29, 172]
abbrev dktX1_which_5 : List UInt8 := dkwX1_which_5 ++ []
def dkwX1_which_4 : List UInt8 := [16, 19, 112, 96, 16, 9, 100, 16, 50, 96, 62, 132, 4, 1, 167, 255, 195, 27, 154, 0, 7, 28]
abbrev dktX1_which_4 : List UInt8 := dkwX1_which_4 ++ dktX1_which_5
def dkwX1_which_3 : List UInt8 := [29, 2, 160, 0, 32, 16, 100, 42, 180, 0, 30, 180, 0, 195, 21, 4, 16, 19, 108, 46, 104, 21, 4]
abbrev dktX1_which_3 : List UInt8 := dkwX1_which_3 ++ dktX1_which_4
def dkwX1_which_2 : List UInt8 := [21, 4, 42, 182, 1, 59, 162, 0, 58, 42, 21, 4, 182, 1, 71, 154, 0, 6, 167, 0, 40, 132, 2, 1]
abbrev dktX1_which_2 : List UInt8 := dkwX1_which_2 ++ dktX1_which_3
def dkwX1_which_1 : List UInt8 := [182, 0, 239, 42, 182, 1, 67, 153, 0, 7, 4, 167, 0, 4, 3, 172, 3, 61, 2, 62, 3, 54, 4]
abbrev dktX1_which_1 : List UInt8 := dkwX1_which_1 ++ dktX1_which_2
def dkwX1_which_0 : List UInt8 := [27, 3, 5, 184, 0, 137, 184, 0, 85, 27, 5, 160, 0, 27, 42, 180, 0, 34, 42, 180, 0, 30]
abbrev dktX1_which_0 : List UInt8 := dkwX1_which_0 ++ dktX1_which_1
theorem dksX1_which_0 : cX1_which.data.toList.drop 0 = dktX1_which_0 := by decide +kernel
theorem dksX1_which_1 : cX1_which.data.toList.drop 22 = dktX1_which_1 := dk_seg dksX1_which_0 22 rfl rfl
theorem dksX1_which_2 : cX1_which.data.toList.drop 45 = dktX1_which_2 := dk_seg dksX1_which_1 23 rfl rfl
theorem dksX1_which_3 : cX1_which.data.toList.drop 69 = dktX1_which_3 := dk_seg dksX1_which_2 24 rfl rfl
theorem dksX1_which_4 : cX1_which.data.toList.drop 92 = dktX1_which_4 := dk_seg dksX1_which_3 23 rfl rfl
theorem dksX1_which_5 : cX1_which.data.toList.drop 114 = dktX1_which_5 := dk_seg dksX1_which_4 22 rfl rfl
theorem dX1_which_0 : decode cX1_which 0 = .ok (.iload_n 1, 1) := dk_27 (dk_at dksX1_which_0 0 rfl rfl)
theorem dX1_which_1 : decode cX1_which 1 = .ok (.iconst 0, 1) := dk_3 (dk_at dksX1_which_0 1 rfl rfl)
theorem dX1_which_2 : decode cX1_which 2 = .ok (.iconst 2, 1) := dk_5 (dk_at dksX1_which_0 2 rfl rfl)
theorem dX1_which_3 : decode cX1_which 3 = .ok (.invokestatic 137, 3) := dk_184 0 137 (dk_at dksX1_which_0 3 rfl rfl)
theorem dX1_which_6 : decode cX1_which 6 = .ok (.invokestatic 85, 3) := dk_184 0 85 (dk_at dksX1_which_0 6 rfl rfl)
theorem dX1_which_9 : decode cX1_which 9 = .ok (.iload_n 1, 1) := dk_27 (dk_at dksX1_which_0 9 rfl rfl)
theorem dX1_which_10 : decode cX1_which 10 = .ok (.iconst 2, 1) := dk_5 (dk_at dksX1_which_0 10 rfl rfl)
theorem dX1_which_11 : decode cX1_which 11 = .ok (.if_icmp .ne 27, 3) := dk_160 0 27 (dk_at dksX1_which_0 11 rfl rfl)
theorem dX1_which_14 : decode cX1_which 14 = .ok (.aload_n 0, 1) := dk_42 (dk_at dksX1_which_0 14 rfl rfl)
theorem dX1_which_15 : decode cX1_which 15 = .ok (.getfield 34, 3) := dk_180 0 34 (dk_at dksX1_which_0 15 rfl rfl)
theorem dX1_which_18 : decode cX1_which 18 = .ok (.aload_n 0, 1) := dk_42 (dk_at dksX1_which_0 18 rfl rfl)
theorem dX1_which_19 : decode cX1_which 19 = .ok (.getfield 30, 3) := dk_180 0 30 (dk_at dksX1_which_0 19 rfl rfl)
theorem dX1_which_22 : decode cX1_which 22 = .ok (.invokevirtual 239, 3) := dk_182 0 239 (dk_at dksX1_which_1 0 rfl rfl)
theorem dX1_which_25 : decode cX1_which 25 = .ok (.aload_n 0, 1) := dk_42 (dk_at dksX1_which_1 3 rfl rfl)
theorem dX1_which_26 : decode cX1_which 26 = .ok (.invokevirtual 323, 3) := dk_182 1 67 (dk_at dksX1_which_1 4 rfl rfl)
theorem dX1_which_29 : decode cX1_which 29 = .ok (.ifCond .eq 7, 3) := dk_153 0 7 (dk_at dksX1_which_1 7 rfl rfl)
theorem dX1_which_32 : decode cX1_which 32 = .ok (.iconst 1, 1) := dk_4 (dk_at dksX1_which_1 10 rfl rfl)
theorem dX1_which_33 : decode cX1_which 33 = .ok (.goto 4, 3) := dk_167 0 4 (dk_at dksX1_which_1 11 rfl rfl)
theorem dX1_which_36 : decode cX1_which 36 = .ok (.iconst 0, 1) := dk_3 (dk_at dksX1_which_1 14 rfl rfl)
theorem dX1_which_37 : decode cX1_which 37 = .ok (.ireturn, 1) := dk_172 (dk_at dksX1_which_1 15 rfl rfl)
theorem dX1_which_38 : decode cX1_which 38 = .ok (.iconst 0, 1) := dk_3 (dk_at dksX1_which_1 16 rfl rfl)
theorem dX1_which_39 : decode cX1_which 39 = .ok (.istore_n 2, 1) := dk_61 (dk_at dksX1_which_1 17 rfl rfl)
theorem dX1_which_40 : decode cX1_which 40 = .ok (.iconst (-1), 1) := dk_2 (dk_at dksX1_which_1 18 rfl rfl)
theorem dX1_which_41 : decode cX1_which 41 = .ok (.istore_n 3, 1) := dk_62 (dk_at dksX1_which_1 19 rfl rfl)
theorem dX1_which_42 : decode cX1_which 42 = .ok (.iconst 0, 1) := dk_3 (dk_at dksX1_which_1 20 rfl rfl)
theorem dX1_which_43 : decode cX1_which 43 = .ok (.istore 4, 2) := dk_54 4 (dk_at dksX1_which_1 21 rfl rfl)
theorem dX1_which_45 : decode cX1_which 45 = .ok (.iload 4, 2) := dk_21 4 (dk_at dksX1_which_2 0 rfl rfl)
theorem dX1_which_47 : decode cX1_which 47 = .ok (.aload_n 0, 1) := dk_42 (dk_at dksX1_which_2 2 rfl rfl)
theorem dX1_which_48 : decode cX1_which 48 = .ok (.invokevirtual 315, 3) := dk_182 1 59 (dk_at dksX1_which_2 3 rfl rfl)
theorem dX1_which_51 : decode cX1_which 51 = .ok (.if_icmp .ge 58, 3) := dk_162 0 58 (dk_at dksX1_which_2 6 rfl rfl)
theorem dX1_which_54 : decode cX1_which 54 = .ok (.aload_n 0, 1) := dk_42 (dk_at dksX1_which_2 9 rfl rfl)
theorem dX1_which_55 : decode cX1_which 55 = .ok (.iload 4, 2) := dk_21 4 (dk_at dksX1_which_2 10 rfl rfl)
theorem dX1_which_57 : decode cX1_which 57 = .ok (.invokevirtual 327, 3) := dk_182 1 71 (dk_at dksX1_which_2 12 rfl rfl)
theorem dX1_which_60 : decode cX1_which 60 = .ok (.ifCond .ne 6, 3) := dk_154 0 6 (dk_at dksX1_which_2 15 rfl rfl)
theorem dX1_which_63 : decode cX1_which 63 = .ok (.goto 40, 3) := dk_167 0 40 (dk_at dksX1_which_2 18 rfl rfl)
theorem dX1_which_66 : decode cX1_which 66 = .ok (.iinc 2 1, 3) := dk_132 2 1 (dk_at dksX1_which_2 21 rfl rfl)
theorem dX1_which_69 : decode cX1_which 69 = .ok (.iload_n 3, 1) := dk_29 (dk_at dksX1_which_3 0 rfl rfl)
theorem dX1_which_70 : decode cX1_which 70 = .ok (.iconst (-1), 1) := dk_2 (dk_at dksX1_which_3 1 rfl rfl)
theorem dX1_which_71 : decode cX1_which 71 = .ok (.if_icmp .ne 32, 3) := dk_160 0 32 (dk_at dksX1_which_3 2 rfl rfl)
theorem dX1_which_74 : decode cX1_which 74 = .ok (.bipush 100, 2) := dk_16 100 (dk_at dksX1_which_3 5 rfl rfl)
theorem dX1_which_76 : decode cX1_which 76 = .ok (.aload_n 0, 1) := dk_42 (dk_at dksX1_which_3 7 rfl rfl)
theorem dX1_which_77 : decode cX1_which 77 = .ok (.getfield 30, 3) := dk_180 0 30 (dk_at dksX1_which_3 8 rfl rfl)
theorem dX1_which_80 : decode cX1_which 80 = .ok (.getfield 195, 3) := dk_180 0 195 (dk_at dksX1_which_3 11 rfl rfl)
theorem dX1_which_83 : decode cX1_which 83 = .ok (.iload 4, 2) := dk_21 4 (dk_at dksX1_which_3 14 rfl rfl)
theorem dX1_which_85 : decode cX1_which 85 = .ok (.bipush 19, 2) := dk_16 19 (dk_at dksX1_which_3 16 rfl rfl)
theorem dX1_which_87 : decode cX1_which 87 = .ok (.idiv, 1) := dk_108 (dk_at dksX1_which_3 18 rfl rfl)
theorem dX1_which_88 : decode cX1_which 88 = .ok (.iaload, 1) := dk_46 (dk_at dksX1_which_3 19 rfl rfl)
theorem dX1_which_89 : decode cX1_which 89 = .ok (.imul, 1) := dk_104 (dk_at dksX1_which_3 20 rfl rfl)
theorem dX1_which_90 : decode cX1_which 90 = .ok (.iload 4, 2) := dk_21 4 (dk_at dksX1_which_3 21 rfl rfl)
theorem dX1_which_92 : decode cX1_which 92 = .ok (.bipush 19, 2) := dk_16 19 (dk_at dksX1_which_4 0 rfl rfl)
theorem dX1_which_94 : decode cX1_which 94 = .ok (.irem, 1) := dk_112 (dk_at dksX1_which_4 2 rfl rfl)
theorem dX1_which_95 : decode cX1_which 95 = .ok (.iadd, 1) := dk_96 (dk_at dksX1_which_4 3 rfl rfl)
theorem dX1_which_96 : decode cX1_which 96 = .ok (.bipush 9, 2) := dk_16 9 (dk_at dksX1_which_4 4 rfl rfl)
theorem dX1_which_98 : decode cX1_which 98 = .ok (.isub, 1) := dk_100 (dk_at dksX1_which_4 6 rfl rfl)
theorem dX1_which_99 : decode cX1_which 99 = .ok (.bipush 50, 2) := dk_16 50 (dk_at dksX1_which_4 7 rfl rfl)
theorem dX1_which_101 : decode cX1_which 101 = .ok (.iadd, 1) := dk_96 (dk_at dksX1_which_4 9 rfl rfl)
theorem dX1_which_102 : decode cX1_which 102 = .ok (.istore_n 3, 1) := dk_62 (dk_at dksX1_which_4 10 rfl rfl)
theorem dX1_which_103 : decode cX1_which 103 = .ok (.iinc 4 1, 3) := dk_132 4 1 (dk_at dksX1_which_4 11 rfl rfl)
theorem dX1_which_106 : decode cX1_which 106 = .ok (.goto (-61), 3) := dk_167 255 195 (dk_at dksX1_which_4 14 rfl rfl)
theorem dX1_which_109 : decode cX1_which 109 = .ok (.iload_n 1, 1) := dk_27 (dk_at dksX1_which_4 17 rfl rfl)
theorem dX1_which_110 : decode cX1_which 110 = .ok (.ifCond .ne 7, 3) := dk_154 0 7 (dk_at dksX1_which_4 18 rfl rfl)
theorem dX1_which_113 : decode cX1_which 113 = .ok (.iload_n 2, 1) := dk_28 (dk_at dksX1_which_4 21 rfl rfl)
theorem dX1_which_114 : decode cX1_which 114 = .ok (.goto 4, 3) := dk_167 0 4 (dk_at dksX1_which_5 0 rfl rfl)
theorem dX1_which_117 : decode cX1_which 117 = .ok (.iload_n 3, 1) := dk_29 (dk_at dksX1_which_5 3 rfl rfl)
theorem dX1_which_118 : decode cX1_which 118 = .ok (.ireturn, 1) := dk_172 (dk_at dksX1_which_5 4 rfl rfl)
abbrev cX1_game : ByteArray := prog_1_method_70_code
def yX1_game : MethodName := ⟨RX1, "game", "(I)I"⟩
def dkwX1_game_7 : List UInt8 := [132, 5, 1, 167, 255, 130, 132, 4, 1, 167, 255, 103, 27, 154, 0, 7, 28, 167, 0, 4, 29, 172]
abbrev dktX1_game_7 : List UInt8 := dkwX1_game_7 ++ []
def dkwX1_game_6 : List UInt8 := [154, 0, 6, 167, 0, 20, 132, 2, 1, 29, 2, 160, 0, 12, 16, 10, 21, 4, 104, 21, 5, 96, 62]
abbrev dktX1_game_6 : List UInt8 := dkwX1_game_6 ++ dktX1_game_7
def dkwX1_game_5 : List UInt8 := [21, 6, 182, 1, 81, 163, 0, 7, 4, 167, 0, 4, 3, 54, 7, 132, 8, 1, 167, 255, 184, 21, 7]
abbrev dktX1_game_5 : List UInt8 := dkwX1_game_5 ++ dktX1_game_6
def dkwX1_game_4 : List UInt8 := [182, 1, 81, 163, 0, 32, 42, 21, 8, 42, 21, 4, 21, 8, 182, 1, 78, 182, 1, 81, 42, 21, 5]
abbrev dktX1_game_4 : List UInt8 := dkwX1_game_4 ++ dktX1_game_5
def dkwX1_game_3 : List UInt8 := [153, 0, 66, 42, 21, 8, 42, 21, 8, 21, 5, 182, 1, 78, 182, 1, 81, 42, 21, 4, 21, 6]
abbrev dktX1_game_3 : List UInt8 := dkwX1_game_3 ++ dktX1_game_4
def dkwX1_game_2 : List UInt8 := [21, 5, 182, 1, 78, 54, 6, 4, 54, 7, 3, 54, 8, 21, 8, 16, 9, 163, 0, 71, 21, 7]
abbrev dktX1_game_2 : List UInt8 := dkwX1_game_2 ++ dktX1_game_3
def dkwX1_game_1 : List UInt8 := [180, 0, 30, 180, 0, 95, 4, 164, 0, 141, 3, 54, 5, 21, 5, 16, 9, 163, 0, 125, 42, 21, 4]
abbrev dktX1_game_1 : List UInt8 := dkwX1_game_1 ++ dktX1_game_2
def dkwX1_game_0 : List UInt8 := [27, 3, 4, 184, 0, 137, 184, 0, 85, 3, 61, 2, 62, 3, 54, 4, 21, 4, 16, 9, 163, 0, 152, 42]
abbrev dktX1_game_0 : List UInt8 := dkwX1_game_0 ++ dktX1_game_1
theorem dksX1_game_0 : cX1_game.data.toList.drop 0 = dktX1_game_0 := by decide +kernel
theorem dksX1_game_1 : cX1_game.data.toList.drop 24 = dktX1_game_1 := dk_seg dksX1_game_0 24 rfl rfl
theorem dksX1_game_2 : cX1_game.data.toList.drop 47 = dktX1_game_2 := dk_seg dksX1_game_1 23 rfl rfl
theorem dksX1_game_3 : cX1_game.data.toList.drop 69 = dktX1_game_3 := dk_seg dksX1_game_2 22 rfl rfl
theorem dksX1_game_4 : cX1_game.data.toList.drop 91 = dktX1_game_4 := dk_seg dksX1_game_3 22 rfl rfl
theorem dksX1_game_5 : cX1_game.data.toList.drop 114 = dktX1_game_5 := dk_seg dksX1_game_4 23 rfl rfl
theorem dksX1_game_6 : cX1_game.data.toList.drop 137 = dktX1_game_6 := dk_seg dksX1_game_5 23 rfl rfl
theorem dksX1_game_7 : cX1_game.data.toList.drop 160 = dktX1_game_7 := dk_seg dksX1_game_6 23 rfl rfl
theorem dX1_game_0 : decode cX1_game 0 = .ok (.iload_n 1, 1) := dk_27 (dk_at dksX1_game_0 0 rfl rfl)
theorem dX1_game_1 : decode cX1_game 1 = .ok (.iconst 0, 1) := dk_3 (dk_at dksX1_game_0 1 rfl rfl)
theorem dX1_game_2 : decode cX1_game 2 = .ok (.iconst 1, 1) := dk_4 (dk_at dksX1_game_0 2 rfl rfl)
theorem dX1_game_3 : decode cX1_game 3 = .ok (.invokestatic 137, 3) := dk_184 0 137 (dk_at dksX1_game_0 3 rfl rfl)
theorem dX1_game_6 : decode cX1_game 6 = .ok (.invokestatic 85, 3) := dk_184 0 85 (dk_at dksX1_game_0 6 rfl rfl)
theorem dX1_game_9 : decode cX1_game 9 = .ok (.iconst 0, 1) := dk_3 (dk_at dksX1_game_0 9 rfl rfl)
theorem dX1_game_10 : decode cX1_game 10 = .ok (.istore_n 2, 1) := dk_61 (dk_at dksX1_game_0 10 rfl rfl)
theorem dX1_game_11 : decode cX1_game 11 = .ok (.iconst (-1), 1) := dk_2 (dk_at dksX1_game_0 11 rfl rfl)
theorem dX1_game_12 : decode cX1_game 12 = .ok (.istore_n 3, 1) := dk_62 (dk_at dksX1_game_0 12 rfl rfl)
theorem dX1_game_13 : decode cX1_game 13 = .ok (.iconst 0, 1) := dk_3 (dk_at dksX1_game_0 13 rfl rfl)
theorem dX1_game_14 : decode cX1_game 14 = .ok (.istore 4, 2) := dk_54 4 (dk_at dksX1_game_0 14 rfl rfl)
theorem dX1_game_16 : decode cX1_game 16 = .ok (.iload 4, 2) := dk_21 4 (dk_at dksX1_game_0 16 rfl rfl)
theorem dX1_game_18 : decode cX1_game 18 = .ok (.bipush 9, 2) := dk_16 9 (dk_at dksX1_game_0 18 rfl rfl)
theorem dX1_game_20 : decode cX1_game 20 = .ok (.if_icmp .gt 152, 3) := dk_163 0 152 (dk_at dksX1_game_0 20 rfl rfl)
theorem dX1_game_23 : decode cX1_game 23 = .ok (.aload_n 0, 1) := dk_42 (dk_at dksX1_game_0 23 rfl rfl)
theorem dX1_game_24 : decode cX1_game 24 = .ok (.getfield 30, 3) := dk_180 0 30 (dk_at dksX1_game_1 0 rfl rfl)
theorem dX1_game_27 : decode cX1_game 27 = .ok (.getfield 95, 3) := dk_180 0 95 (dk_at dksX1_game_1 3 rfl rfl)
theorem dX1_game_30 : decode cX1_game 30 = .ok (.iconst 1, 1) := dk_4 (dk_at dksX1_game_1 6 rfl rfl)
theorem dX1_game_31 : decode cX1_game 31 = .ok (.if_icmp .le 141, 3) := dk_164 0 141 (dk_at dksX1_game_1 7 rfl rfl)
theorem dX1_game_34 : decode cX1_game 34 = .ok (.iconst 0, 1) := dk_3 (dk_at dksX1_game_1 10 rfl rfl)
theorem dX1_game_35 : decode cX1_game 35 = .ok (.istore 5, 2) := dk_54 5 (dk_at dksX1_game_1 11 rfl rfl)
theorem dX1_game_37 : decode cX1_game 37 = .ok (.iload 5, 2) := dk_21 5 (dk_at dksX1_game_1 13 rfl rfl)
theorem dX1_game_39 : decode cX1_game 39 = .ok (.bipush 9, 2) := dk_16 9 (dk_at dksX1_game_1 15 rfl rfl)
theorem dX1_game_41 : decode cX1_game 41 = .ok (.if_icmp .gt 125, 3) := dk_163 0 125 (dk_at dksX1_game_1 17 rfl rfl)
theorem dX1_game_44 : decode cX1_game 44 = .ok (.aload_n 0, 1) := dk_42 (dk_at dksX1_game_1 20 rfl rfl)
theorem dX1_game_45 : decode cX1_game 45 = .ok (.iload 4, 2) := dk_21 4 (dk_at dksX1_game_1 21 rfl rfl)
theorem dX1_game_47 : decode cX1_game 47 = .ok (.iload 5, 2) := dk_21 5 (dk_at dksX1_game_2 0 rfl rfl)
theorem dX1_game_49 : decode cX1_game 49 = .ok (.invokevirtual 334, 3) := dk_182 1 78 (dk_at dksX1_game_2 2 rfl rfl)
theorem dX1_game_52 : decode cX1_game 52 = .ok (.istore 6, 2) := dk_54 6 (dk_at dksX1_game_2 5 rfl rfl)
theorem dX1_game_54 : decode cX1_game 54 = .ok (.iconst 1, 1) := dk_4 (dk_at dksX1_game_2 7 rfl rfl)
theorem dX1_game_55 : decode cX1_game 55 = .ok (.istore 7, 2) := dk_54 7 (dk_at dksX1_game_2 8 rfl rfl)
theorem dX1_game_57 : decode cX1_game 57 = .ok (.iconst 0, 1) := dk_3 (dk_at dksX1_game_2 10 rfl rfl)
theorem dX1_game_58 : decode cX1_game 58 = .ok (.istore 8, 2) := dk_54 8 (dk_at dksX1_game_2 11 rfl rfl)
theorem dX1_game_60 : decode cX1_game 60 = .ok (.iload 8, 2) := dk_21 8 (dk_at dksX1_game_2 13 rfl rfl)
theorem dX1_game_62 : decode cX1_game 62 = .ok (.bipush 9, 2) := dk_16 9 (dk_at dksX1_game_2 15 rfl rfl)
theorem dX1_game_64 : decode cX1_game 64 = .ok (.if_icmp .gt 71, 3) := dk_163 0 71 (dk_at dksX1_game_2 17 rfl rfl)
theorem dX1_game_67 : decode cX1_game 67 = .ok (.iload 7, 2) := dk_21 7 (dk_at dksX1_game_2 20 rfl rfl)
theorem dX1_game_69 : decode cX1_game 69 = .ok (.ifCond .eq 66, 3) := dk_153 0 66 (dk_at dksX1_game_3 0 rfl rfl)
theorem dX1_game_72 : decode cX1_game 72 = .ok (.aload_n 0, 1) := dk_42 (dk_at dksX1_game_3 3 rfl rfl)
theorem dX1_game_73 : decode cX1_game 73 = .ok (.iload 8, 2) := dk_21 8 (dk_at dksX1_game_3 4 rfl rfl)
theorem dX1_game_75 : decode cX1_game 75 = .ok (.aload_n 0, 1) := dk_42 (dk_at dksX1_game_3 6 rfl rfl)
theorem dX1_game_76 : decode cX1_game 76 = .ok (.iload 8, 2) := dk_21 8 (dk_at dksX1_game_3 7 rfl rfl)
theorem dX1_game_78 : decode cX1_game 78 = .ok (.iload 5, 2) := dk_21 5 (dk_at dksX1_game_3 9 rfl rfl)
theorem dX1_game_80 : decode cX1_game 80 = .ok (.invokevirtual 334, 3) := dk_182 1 78 (dk_at dksX1_game_3 11 rfl rfl)
theorem dX1_game_83 : decode cX1_game 83 = .ok (.invokevirtual 337, 3) := dk_182 1 81 (dk_at dksX1_game_3 14 rfl rfl)
theorem dX1_game_86 : decode cX1_game 86 = .ok (.aload_n 0, 1) := dk_42 (dk_at dksX1_game_3 17 rfl rfl)
theorem dX1_game_87 : decode cX1_game 87 = .ok (.iload 4, 2) := dk_21 4 (dk_at dksX1_game_3 18 rfl rfl)
theorem dX1_game_89 : decode cX1_game 89 = .ok (.iload 6, 2) := dk_21 6 (dk_at dksX1_game_3 20 rfl rfl)
theorem dX1_game_91 : decode cX1_game 91 = .ok (.invokevirtual 337, 3) := dk_182 1 81 (dk_at dksX1_game_4 0 rfl rfl)
theorem dX1_game_94 : decode cX1_game 94 = .ok (.if_icmp .gt 32, 3) := dk_163 0 32 (dk_at dksX1_game_4 3 rfl rfl)
theorem dX1_game_97 : decode cX1_game 97 = .ok (.aload_n 0, 1) := dk_42 (dk_at dksX1_game_4 6 rfl rfl)
theorem dX1_game_98 : decode cX1_game 98 = .ok (.iload 8, 2) := dk_21 8 (dk_at dksX1_game_4 7 rfl rfl)
theorem dX1_game_100 : decode cX1_game 100 = .ok (.aload_n 0, 1) := dk_42 (dk_at dksX1_game_4 9 rfl rfl)
theorem dX1_game_101 : decode cX1_game 101 = .ok (.iload 4, 2) := dk_21 4 (dk_at dksX1_game_4 10 rfl rfl)
theorem dX1_game_103 : decode cX1_game 103 = .ok (.iload 8, 2) := dk_21 8 (dk_at dksX1_game_4 12 rfl rfl)
theorem dX1_game_105 : decode cX1_game 105 = .ok (.invokevirtual 334, 3) := dk_182 1 78 (dk_at dksX1_game_4 14 rfl rfl)
theorem dX1_game_108 : decode cX1_game 108 = .ok (.invokevirtual 337, 3) := dk_182 1 81 (dk_at dksX1_game_4 17 rfl rfl)
theorem dX1_game_111 : decode cX1_game 111 = .ok (.aload_n 0, 1) := dk_42 (dk_at dksX1_game_4 20 rfl rfl)
theorem dX1_game_112 : decode cX1_game 112 = .ok (.iload 5, 2) := dk_21 5 (dk_at dksX1_game_4 21 rfl rfl)
theorem dX1_game_114 : decode cX1_game 114 = .ok (.iload 6, 2) := dk_21 6 (dk_at dksX1_game_5 0 rfl rfl)
theorem dX1_game_116 : decode cX1_game 116 = .ok (.invokevirtual 337, 3) := dk_182 1 81 (dk_at dksX1_game_5 2 rfl rfl)
theorem dX1_game_119 : decode cX1_game 119 = .ok (.if_icmp .gt 7, 3) := dk_163 0 7 (dk_at dksX1_game_5 5 rfl rfl)
theorem dX1_game_122 : decode cX1_game 122 = .ok (.iconst 1, 1) := dk_4 (dk_at dksX1_game_5 8 rfl rfl)
theorem dX1_game_123 : decode cX1_game 123 = .ok (.goto 4, 3) := dk_167 0 4 (dk_at dksX1_game_5 9 rfl rfl)
theorem dX1_game_126 : decode cX1_game 126 = .ok (.iconst 0, 1) := dk_3 (dk_at dksX1_game_5 12 rfl rfl)
theorem dX1_game_127 : decode cX1_game 127 = .ok (.istore 7, 2) := dk_54 7 (dk_at dksX1_game_5 13 rfl rfl)
theorem dX1_game_129 : decode cX1_game 129 = .ok (.iinc 8 1, 3) := dk_132 8 1 (dk_at dksX1_game_5 15 rfl rfl)
theorem dX1_game_132 : decode cX1_game 132 = .ok (.goto (-72), 3) := dk_167 255 184 (dk_at dksX1_game_5 18 rfl rfl)
theorem dX1_game_135 : decode cX1_game 135 = .ok (.iload 7, 2) := dk_21 7 (dk_at dksX1_game_5 21 rfl rfl)
theorem dX1_game_137 : decode cX1_game 137 = .ok (.ifCond .ne 6, 3) := dk_154 0 6 (dk_at dksX1_game_6 0 rfl rfl)
theorem dX1_game_140 : decode cX1_game 140 = .ok (.goto 20, 3) := dk_167 0 20 (dk_at dksX1_game_6 3 rfl rfl)
theorem dX1_game_143 : decode cX1_game 143 = .ok (.iinc 2 1, 3) := dk_132 2 1 (dk_at dksX1_game_6 6 rfl rfl)
theorem dX1_game_146 : decode cX1_game 146 = .ok (.iload_n 3, 1) := dk_29 (dk_at dksX1_game_6 9 rfl rfl)
theorem dX1_game_147 : decode cX1_game 147 = .ok (.iconst (-1), 1) := dk_2 (dk_at dksX1_game_6 10 rfl rfl)
theorem dX1_game_148 : decode cX1_game 148 = .ok (.if_icmp .ne 12, 3) := dk_160 0 12 (dk_at dksX1_game_6 11 rfl rfl)
theorem dX1_game_151 : decode cX1_game 151 = .ok (.bipush 10, 2) := dk_16 10 (dk_at dksX1_game_6 14 rfl rfl)
theorem dX1_game_153 : decode cX1_game 153 = .ok (.iload 4, 2) := dk_21 4 (dk_at dksX1_game_6 16 rfl rfl)
theorem dX1_game_155 : decode cX1_game 155 = .ok (.imul, 1) := dk_104 (dk_at dksX1_game_6 18 rfl rfl)
theorem dX1_game_156 : decode cX1_game 156 = .ok (.iload 5, 2) := dk_21 5 (dk_at dksX1_game_6 19 rfl rfl)
theorem dX1_game_158 : decode cX1_game 158 = .ok (.iadd, 1) := dk_96 (dk_at dksX1_game_6 21 rfl rfl)
theorem dX1_game_159 : decode cX1_game 159 = .ok (.istore_n 3, 1) := dk_62 (dk_at dksX1_game_6 22 rfl rfl)
theorem dX1_game_160 : decode cX1_game 160 = .ok (.iinc 5 1, 3) := dk_132 5 1 (dk_at dksX1_game_7 0 rfl rfl)
theorem dX1_game_163 : decode cX1_game 163 = .ok (.goto (-126), 3) := dk_167 255 130 (dk_at dksX1_game_7 3 rfl rfl)
theorem dX1_game_166 : decode cX1_game 166 = .ok (.iinc 4 1, 3) := dk_132 4 1 (dk_at dksX1_game_7 6 rfl rfl)
theorem dX1_game_169 : decode cX1_game 169 = .ok (.goto (-153), 3) := dk_167 255 103 (dk_at dksX1_game_7 9 rfl rfl)
theorem dX1_game_172 : decode cX1_game 172 = .ok (.iload_n 1, 1) := dk_27 (dk_at dksX1_game_7 12 rfl rfl)
theorem dX1_game_173 : decode cX1_game 173 = .ok (.ifCond .ne 7, 3) := dk_154 0 7 (dk_at dksX1_game_7 13 rfl rfl)
theorem dX1_game_176 : decode cX1_game 176 = .ok (.iload_n 2, 1) := dk_28 (dk_at dksX1_game_7 16 rfl rfl)
theorem dX1_game_177 : decode cX1_game 177 = .ok (.goto 4, 3) := dk_167 0 4 (dk_at dksX1_game_7 17 rfl rfl)
theorem dX1_game_180 : decode cX1_game 180 = .ok (.iload_n 3, 1) := dk_29 (dk_at dksX1_game_7 20 rfl rfl)
theorem dX1_game_181 : decode cX1_game 181 = .ok (.ireturn, 1) := dk_172 (dk_at dksX1_game_7 21 rfl rfl)
abbrev cX1_standsBy : ByteArray := prog_1_method_68_code
def yX1_standsBy : MethodName := ⟨RX1, "standsBy", "(II)Z"⟩
def dkwX1_standsBy_3 : List UInt8 := [182, 0, 147, 172]
abbrev dktX1_standsBy_3 : List UInt8 := dkwX1_standsBy_3 ++ []
def dkwX1_standsBy_2 : List UInt8 := [42, 180, 0, 30, 180, 0, 95, 4, 100, 46, 92, 46, 28, 96, 79, 42, 180, 0, 34, 42, 180, 0, 10]
abbrev dktX1_standsBy_2 : List UInt8 := dkwX1_standsBy_2 ++ dktX1_standsBy_3
def dkwX1_standsBy_1 : List UInt8 := [180, 0, 195, 3, 46, 92, 46, 27, 96, 79, 42, 180, 0, 34, 180, 0, 183, 42, 180, 0, 30, 180, 0, 195]
abbrev dktX1_standsBy_1 : List UInt8 := dkwX1_standsBy_1 ++ dktX1_standsBy_2
def dkwX1_standsBy_0 : List UInt8 := [42, 180, 0, 34, 42, 180, 0, 30, 182, 0, 239, 42, 180, 0, 34, 180, 0, 183, 42, 180, 0, 30]
abbrev dktX1_standsBy_0 : List UInt8 := dkwX1_standsBy_0 ++ dktX1_standsBy_1
theorem dksX1_standsBy_0 : cX1_standsBy.data.toList.drop 0 = dktX1_standsBy_0 := by decide +kernel
theorem dksX1_standsBy_1 : cX1_standsBy.data.toList.drop 22 = dktX1_standsBy_1 := dk_seg dksX1_standsBy_0 22 rfl rfl
theorem dksX1_standsBy_2 : cX1_standsBy.data.toList.drop 46 = dktX1_standsBy_2 := dk_seg dksX1_standsBy_1 24 rfl rfl
theorem dksX1_standsBy_3 : cX1_standsBy.data.toList.drop 69 = dktX1_standsBy_3 := dk_seg dksX1_standsBy_2 23 rfl rfl
theorem dX1_standsBy_0 : decode cX1_standsBy 0 = .ok (.aload_n 0, 1) := dk_42 (dk_at dksX1_standsBy_0 0 rfl rfl)
theorem dX1_standsBy_1 : decode cX1_standsBy 1 = .ok (.getfield 34, 3) := dk_180 0 34 (dk_at dksX1_standsBy_0 1 rfl rfl)
theorem dX1_standsBy_4 : decode cX1_standsBy 4 = .ok (.aload_n 0, 1) := dk_42 (dk_at dksX1_standsBy_0 4 rfl rfl)
theorem dX1_standsBy_5 : decode cX1_standsBy 5 = .ok (.getfield 30, 3) := dk_180 0 30 (dk_at dksX1_standsBy_0 5 rfl rfl)
theorem dX1_standsBy_8 : decode cX1_standsBy 8 = .ok (.invokevirtual 239, 3) := dk_182 0 239 (dk_at dksX1_standsBy_0 8 rfl rfl)
theorem dX1_standsBy_11 : decode cX1_standsBy 11 = .ok (.aload_n 0, 1) := dk_42 (dk_at dksX1_standsBy_0 11 rfl rfl)
theorem dX1_standsBy_12 : decode cX1_standsBy 12 = .ok (.getfield 34, 3) := dk_180 0 34 (dk_at dksX1_standsBy_0 12 rfl rfl)
theorem dX1_standsBy_15 : decode cX1_standsBy 15 = .ok (.getfield 183, 3) := dk_180 0 183 (dk_at dksX1_standsBy_0 15 rfl rfl)
theorem dX1_standsBy_18 : decode cX1_standsBy 18 = .ok (.aload_n 0, 1) := dk_42 (dk_at dksX1_standsBy_0 18 rfl rfl)
theorem dX1_standsBy_19 : decode cX1_standsBy 19 = .ok (.getfield 30, 3) := dk_180 0 30 (dk_at dksX1_standsBy_0 19 rfl rfl)
theorem dX1_standsBy_22 : decode cX1_standsBy 22 = .ok (.getfield 195, 3) := dk_180 0 195 (dk_at dksX1_standsBy_1 0 rfl rfl)
theorem dX1_standsBy_25 : decode cX1_standsBy 25 = .ok (.iconst 0, 1) := dk_3 (dk_at dksX1_standsBy_1 3 rfl rfl)
theorem dX1_standsBy_26 : decode cX1_standsBy 26 = .ok (.iaload, 1) := dk_46 (dk_at dksX1_standsBy_1 4 rfl rfl)
theorem dX1_standsBy_27 : decode cX1_standsBy 27 = .ok (.dup2, 1) := dk_92 (dk_at dksX1_standsBy_1 5 rfl rfl)
theorem dX1_standsBy_28 : decode cX1_standsBy 28 = .ok (.iaload, 1) := dk_46 (dk_at dksX1_standsBy_1 6 rfl rfl)
theorem dX1_standsBy_29 : decode cX1_standsBy 29 = .ok (.iload_n 1, 1) := dk_27 (dk_at dksX1_standsBy_1 7 rfl rfl)
theorem dX1_standsBy_30 : decode cX1_standsBy 30 = .ok (.iadd, 1) := dk_96 (dk_at dksX1_standsBy_1 8 rfl rfl)
theorem dX1_standsBy_31 : decode cX1_standsBy 31 = .ok (.iastore, 1) := dk_79 (dk_at dksX1_standsBy_1 9 rfl rfl)
theorem dX1_standsBy_32 : decode cX1_standsBy 32 = .ok (.aload_n 0, 1) := dk_42 (dk_at dksX1_standsBy_1 10 rfl rfl)
theorem dX1_standsBy_33 : decode cX1_standsBy 33 = .ok (.getfield 34, 3) := dk_180 0 34 (dk_at dksX1_standsBy_1 11 rfl rfl)
theorem dX1_standsBy_36 : decode cX1_standsBy 36 = .ok (.getfield 183, 3) := dk_180 0 183 (dk_at dksX1_standsBy_1 14 rfl rfl)
theorem dX1_standsBy_39 : decode cX1_standsBy 39 = .ok (.aload_n 0, 1) := dk_42 (dk_at dksX1_standsBy_1 17 rfl rfl)
theorem dX1_standsBy_40 : decode cX1_standsBy 40 = .ok (.getfield 30, 3) := dk_180 0 30 (dk_at dksX1_standsBy_1 18 rfl rfl)
theorem dX1_standsBy_43 : decode cX1_standsBy 43 = .ok (.getfield 195, 3) := dk_180 0 195 (dk_at dksX1_standsBy_1 21 rfl rfl)
theorem dX1_standsBy_46 : decode cX1_standsBy 46 = .ok (.aload_n 0, 1) := dk_42 (dk_at dksX1_standsBy_2 0 rfl rfl)
theorem dX1_standsBy_47 : decode cX1_standsBy 47 = .ok (.getfield 30, 3) := dk_180 0 30 (dk_at dksX1_standsBy_2 1 rfl rfl)
theorem dX1_standsBy_50 : decode cX1_standsBy 50 = .ok (.getfield 95, 3) := dk_180 0 95 (dk_at dksX1_standsBy_2 4 rfl rfl)
theorem dX1_standsBy_53 : decode cX1_standsBy 53 = .ok (.iconst 1, 1) := dk_4 (dk_at dksX1_standsBy_2 7 rfl rfl)
theorem dX1_standsBy_54 : decode cX1_standsBy 54 = .ok (.isub, 1) := dk_100 (dk_at dksX1_standsBy_2 8 rfl rfl)
theorem dX1_standsBy_55 : decode cX1_standsBy 55 = .ok (.iaload, 1) := dk_46 (dk_at dksX1_standsBy_2 9 rfl rfl)
theorem dX1_standsBy_56 : decode cX1_standsBy 56 = .ok (.dup2, 1) := dk_92 (dk_at dksX1_standsBy_2 10 rfl rfl)
theorem dX1_standsBy_57 : decode cX1_standsBy 57 = .ok (.iaload, 1) := dk_46 (dk_at dksX1_standsBy_2 11 rfl rfl)
theorem dX1_standsBy_58 : decode cX1_standsBy 58 = .ok (.iload_n 2, 1) := dk_28 (dk_at dksX1_standsBy_2 12 rfl rfl)
theorem dX1_standsBy_59 : decode cX1_standsBy 59 = .ok (.iadd, 1) := dk_96 (dk_at dksX1_standsBy_2 13 rfl rfl)
theorem dX1_standsBy_60 : decode cX1_standsBy 60 = .ok (.iastore, 1) := dk_79 (dk_at dksX1_standsBy_2 14 rfl rfl)
theorem dX1_standsBy_61 : decode cX1_standsBy 61 = .ok (.aload_n 0, 1) := dk_42 (dk_at dksX1_standsBy_2 15 rfl rfl)
theorem dX1_standsBy_62 : decode cX1_standsBy 62 = .ok (.getfield 34, 3) := dk_180 0 34 (dk_at dksX1_standsBy_2 16 rfl rfl)
theorem dX1_standsBy_65 : decode cX1_standsBy 65 = .ok (.aload_n 0, 1) := dk_42 (dk_at dksX1_standsBy_2 19 rfl rfl)
theorem dX1_standsBy_66 : decode cX1_standsBy 66 = .ok (.getfield 10, 3) := dk_180 0 10 (dk_at dksX1_standsBy_2 20 rfl rfl)
theorem dX1_standsBy_69 : decode cX1_standsBy 69 = .ok (.invokevirtual 147, 3) := dk_182 0 147 (dk_at dksX1_standsBy_3 0 rfl rfl)
theorem dX1_standsBy_72 : decode cX1_standsBy 72 = .ok (.ireturn, 1) := dk_172 (dk_at dksX1_standsBy_3 3 rfl rfl)
abbrev cX1_gains : ByteArray := prog_1_method_69_code
def yX1_gains : MethodName := ⟨RX1, "gains", "(IZ)I"⟩
def dkwX1_gains_0 : List UInt8 := [27, 28, 153, 0, 7, 3, 167, 0, 5, 16, 20, 100, 172]
abbrev dktX1_gains_0 : List UInt8 := dkwX1_gains_0 ++ []
theorem dksX1_gains_0 : cX1_gains.data.toList.drop 0 = dktX1_gains_0 := by decide +kernel
theorem dX1_gains_0 : decode cX1_gains 0 = .ok (.iload_n 1, 1) := dk_27 (dk_at dksX1_gains_0 0 rfl rfl)
theorem dX1_gains_1 : decode cX1_gains 1 = .ok (.iload_n 2, 1) := dk_28 (dk_at dksX1_gains_0 1 rfl rfl)
theorem dX1_gains_2 : decode cX1_gains 2 = .ok (.ifCond .eq 7, 3) := dk_153 0 7 (dk_at dksX1_gains_0 2 rfl rfl)
theorem dX1_gains_5 : decode cX1_gains 5 = .ok (.iconst 0, 1) := dk_3 (dk_at dksX1_gains_0 5 rfl rfl)
theorem dX1_gains_6 : decode cX1_gains 6 = .ok (.goto 5, 3) := dk_167 0 5 (dk_at dksX1_gains_0 6 rfl rfl)
theorem dX1_gains_9 : decode cX1_gains 9 = .ok (.bipush 20, 2) := dk_16 20 (dk_at dksX1_gains_0 9 rfl rfl)
theorem dX1_gains_11 : decode cX1_gains 11 = .ok (.isub, 1) := dk_100 (dk_at dksX1_gains_0 11 rfl rfl)
theorem dX1_gains_12 : decode cX1_gains 12 = .ok (.ireturn, 1) := dk_172 (dk_at dksX1_gains_0 12 rfl rfl)
abbrev cX1_decades : ByteArray := prog_1_method_73_code
def yX1_decades : MethodName := ⟨RX1, "decades", "(III)I"⟩
def dkwX1_decades_6 : List UInt8 := [167, 0, 15, 42, 180, 0, 34, 42, 180, 0, 10, 3, 182, 0, 198, 172]
abbrev dktX1_decades_6 : List UInt8 := dkwX1_decades_6 ++ []
def dkwX1_decades_5 : List UInt8 := [167, 0, 39, 29, 4, 160, 0, 8, 21, 5, 167, 0, 29, 42, 180, 0, 34, 180, 0, 95, 154, 0, 7, 3]
abbrev dktX1_decades_5 : List UInt8 := dkwX1_decades_5 ++ dktX1_decades_6
def dkwX1_decades_4 : List UInt8 := [21, 5, 2, 160, 0, 7, 21, 6, 54, 5, 132, 6, 1, 167, 255, 193, 29, 154, 0, 8, 21, 4]
abbrev dktX1_decades_4 : List UInt8 := dkwX1_decades_4 ++ dktX1_decades_5
def dkwX1_decades_3 : List UInt8 := [182, 1, 91, 42, 180, 0, 34, 42, 180, 0, 10, 182, 0, 147, 153, 0, 9, 132, 4, 1, 167, 0, 13]
abbrev dktX1_decades_3 : List UInt8 := dkwX1_decades_3 ++ dktX1_decades_4
def dkwX1_decades_2 : List UInt8 := [163, 0, 63, 42, 180, 0, 34, 89, 180, 0, 161, 4, 96, 181, 0, 161, 42, 182, 0, 83, 158, 0, 7, 42]
abbrev dktX1_decades_2 : List UInt8 := dkwX1_decades_2 ++ dktX1_decades_3
def dkwX1_decades_1 : List UInt8 := [180, 0, 30, 182, 0, 239, 42, 27, 181, 1, 84, 3, 54, 4, 2, 54, 5, 4, 54, 6, 21, 6, 28]
abbrev dktX1_decades_1 : List UInt8 := dkwX1_decades_1 ++ dktX1_decades_2
def dkwX1_decades_0 : List UInt8 := [29, 3, 5, 184, 0, 137, 184, 0, 85, 28, 3, 16, 40, 184, 0, 137, 184, 0, 105, 42, 180, 0, 34, 42]
abbrev dktX1_decades_0 : List UInt8 := dkwX1_decades_0 ++ dktX1_decades_1
theorem dksX1_decades_0 : cX1_decades.data.toList.drop 0 = dktX1_decades_0 := by decide +kernel
theorem dksX1_decades_1 : cX1_decades.data.toList.drop 24 = dktX1_decades_1 := dk_seg dksX1_decades_0 24 rfl rfl
theorem dksX1_decades_2 : cX1_decades.data.toList.drop 47 = dktX1_decades_2 := dk_seg dksX1_decades_1 23 rfl rfl
theorem dksX1_decades_3 : cX1_decades.data.toList.drop 71 = dktX1_decades_3 := dk_seg dksX1_decades_2 24 rfl rfl
theorem dksX1_decades_4 : cX1_decades.data.toList.drop 94 = dktX1_decades_4 := dk_seg dksX1_decades_3 23 rfl rfl
theorem dksX1_decades_5 : cX1_decades.data.toList.drop 116 = dktX1_decades_5 := dk_seg dksX1_decades_4 22 rfl rfl
theorem dksX1_decades_6 : cX1_decades.data.toList.drop 140 = dktX1_decades_6 := dk_seg dksX1_decades_5 24 rfl rfl
theorem dX1_decades_0 : decode cX1_decades 0 = .ok (.iload_n 3, 1) := dk_29 (dk_at dksX1_decades_0 0 rfl rfl)
theorem dX1_decades_1 : decode cX1_decades 1 = .ok (.iconst 0, 1) := dk_3 (dk_at dksX1_decades_0 1 rfl rfl)
theorem dX1_decades_2 : decode cX1_decades 2 = .ok (.iconst 2, 1) := dk_5 (dk_at dksX1_decades_0 2 rfl rfl)
theorem dX1_decades_3 : decode cX1_decades 3 = .ok (.invokestatic 137, 3) := dk_184 0 137 (dk_at dksX1_decades_0 3 rfl rfl)
theorem dX1_decades_6 : decode cX1_decades 6 = .ok (.invokestatic 85, 3) := dk_184 0 85 (dk_at dksX1_decades_0 6 rfl rfl)
theorem dX1_decades_9 : decode cX1_decades 9 = .ok (.iload_n 2, 1) := dk_28 (dk_at dksX1_decades_0 9 rfl rfl)
theorem dX1_decades_10 : decode cX1_decades 10 = .ok (.iconst 0, 1) := dk_3 (dk_at dksX1_decades_0 10 rfl rfl)
theorem dX1_decades_11 : decode cX1_decades 11 = .ok (.bipush 40, 2) := dk_16 40 (dk_at dksX1_decades_0 11 rfl rfl)
theorem dX1_decades_13 : decode cX1_decades 13 = .ok (.invokestatic 137, 3) := dk_184 0 137 (dk_at dksX1_decades_0 13 rfl rfl)
theorem dX1_decades_16 : decode cX1_decades 16 = .ok (.invokestatic 105, 3) := dk_184 0 105 (dk_at dksX1_decades_0 16 rfl rfl)
theorem dX1_decades_19 : decode cX1_decades 19 = .ok (.aload_n 0, 1) := dk_42 (dk_at dksX1_decades_0 19 rfl rfl)
theorem dX1_decades_20 : decode cX1_decades 20 = .ok (.getfield 34, 3) := dk_180 0 34 (dk_at dksX1_decades_0 20 rfl rfl)
theorem dX1_decades_23 : decode cX1_decades 23 = .ok (.aload_n 0, 1) := dk_42 (dk_at dksX1_decades_0 23 rfl rfl)
theorem dX1_decades_24 : decode cX1_decades 24 = .ok (.getfield 30, 3) := dk_180 0 30 (dk_at dksX1_decades_1 0 rfl rfl)
theorem dX1_decades_27 : decode cX1_decades 27 = .ok (.invokevirtual 239, 3) := dk_182 0 239 (dk_at dksX1_decades_1 3 rfl rfl)
theorem dX1_decades_30 : decode cX1_decades 30 = .ok (.aload_n 0, 1) := dk_42 (dk_at dksX1_decades_1 6 rfl rfl)
theorem dX1_decades_31 : decode cX1_decades 31 = .ok (.iload_n 1, 1) := dk_27 (dk_at dksX1_decades_1 7 rfl rfl)
theorem dX1_decades_32 : decode cX1_decades 32 = .ok (.putfield 340, 3) := dk_181 1 84 (dk_at dksX1_decades_1 8 rfl rfl)
theorem dX1_decades_35 : decode cX1_decades 35 = .ok (.iconst 0, 1) := dk_3 (dk_at dksX1_decades_1 11 rfl rfl)
theorem dX1_decades_36 : decode cX1_decades 36 = .ok (.istore 4, 2) := dk_54 4 (dk_at dksX1_decades_1 12 rfl rfl)
theorem dX1_decades_38 : decode cX1_decades 38 = .ok (.iconst (-1), 1) := dk_2 (dk_at dksX1_decades_1 14 rfl rfl)
theorem dX1_decades_39 : decode cX1_decades 39 = .ok (.istore 5, 2) := dk_54 5 (dk_at dksX1_decades_1 15 rfl rfl)
theorem dX1_decades_41 : decode cX1_decades 41 = .ok (.iconst 1, 1) := dk_4 (dk_at dksX1_decades_1 17 rfl rfl)
theorem dX1_decades_42 : decode cX1_decades 42 = .ok (.istore 6, 2) := dk_54 6 (dk_at dksX1_decades_1 18 rfl rfl)
theorem dX1_decades_44 : decode cX1_decades 44 = .ok (.iload 6, 2) := dk_21 6 (dk_at dksX1_decades_1 20 rfl rfl)
theorem dX1_decades_46 : decode cX1_decades 46 = .ok (.iload_n 2, 1) := dk_28 (dk_at dksX1_decades_1 22 rfl rfl)
theorem dX1_decades_47 : decode cX1_decades 47 = .ok (.if_icmp .gt 63, 3) := dk_163 0 63 (dk_at dksX1_decades_2 0 rfl rfl)
theorem dX1_decades_50 : decode cX1_decades 50 = .ok (.aload_n 0, 1) := dk_42 (dk_at dksX1_decades_2 3 rfl rfl)
theorem dX1_decades_51 : decode cX1_decades 51 = .ok (.getfield 34, 3) := dk_180 0 34 (dk_at dksX1_decades_2 4 rfl rfl)
theorem dX1_decades_54 : decode cX1_decades 54 = .ok (.dup, 1) := dk_89 (dk_at dksX1_decades_2 7 rfl rfl)
theorem dX1_decades_55 : decode cX1_decades 55 = .ok (.getfield 161, 3) := dk_180 0 161 (dk_at dksX1_decades_2 8 rfl rfl)
theorem dX1_decades_58 : decode cX1_decades 58 = .ok (.iconst 1, 1) := dk_4 (dk_at dksX1_decades_2 11 rfl rfl)
theorem dX1_decades_59 : decode cX1_decades 59 = .ok (.iadd, 1) := dk_96 (dk_at dksX1_decades_2 12 rfl rfl)
theorem dX1_decades_60 : decode cX1_decades 60 = .ok (.putfield 161, 3) := dk_181 0 161 (dk_at dksX1_decades_2 13 rfl rfl)
theorem dX1_decades_63 : decode cX1_decades 63 = .ok (.aload_n 0, 1) := dk_42 (dk_at dksX1_decades_2 16 rfl rfl)
theorem dX1_decades_64 : decode cX1_decades 64 = .ok (.invokevirtual 83, 3) := dk_182 0 83 (dk_at dksX1_decades_2 17 rfl rfl)
theorem dX1_decades_67 : decode cX1_decades 67 = .ok (.ifCond .le 7, 3) := dk_158 0 7 (dk_at dksX1_decades_2 20 rfl rfl)
theorem dX1_decades_70 : decode cX1_decades 70 = .ok (.aload_n 0, 1) := dk_42 (dk_at dksX1_decades_2 23 rfl rfl)
theorem dX1_decades_71 : decode cX1_decades 71 = .ok (.invokevirtual 347, 3) := dk_182 1 91 (dk_at dksX1_decades_3 0 rfl rfl)
theorem dX1_decades_74 : decode cX1_decades 74 = .ok (.aload_n 0, 1) := dk_42 (dk_at dksX1_decades_3 3 rfl rfl)
theorem dX1_decades_75 : decode cX1_decades 75 = .ok (.getfield 34, 3) := dk_180 0 34 (dk_at dksX1_decades_3 4 rfl rfl)
theorem dX1_decades_78 : decode cX1_decades 78 = .ok (.aload_n 0, 1) := dk_42 (dk_at dksX1_decades_3 7 rfl rfl)
theorem dX1_decades_79 : decode cX1_decades 79 = .ok (.getfield 10, 3) := dk_180 0 10 (dk_at dksX1_decades_3 8 rfl rfl)
theorem dX1_decades_82 : decode cX1_decades 82 = .ok (.invokevirtual 147, 3) := dk_182 0 147 (dk_at dksX1_decades_3 11 rfl rfl)
theorem dX1_decades_85 : decode cX1_decades 85 = .ok (.ifCond .eq 9, 3) := dk_153 0 9 (dk_at dksX1_decades_3 14 rfl rfl)
theorem dX1_decades_88 : decode cX1_decades 88 = .ok (.iinc 4 1, 3) := dk_132 4 1 (dk_at dksX1_decades_3 17 rfl rfl)
theorem dX1_decades_91 : decode cX1_decades 91 = .ok (.goto 13, 3) := dk_167 0 13 (dk_at dksX1_decades_3 20 rfl rfl)
theorem dX1_decades_94 : decode cX1_decades 94 = .ok (.iload 5, 2) := dk_21 5 (dk_at dksX1_decades_4 0 rfl rfl)
theorem dX1_decades_96 : decode cX1_decades 96 = .ok (.iconst (-1), 1) := dk_2 (dk_at dksX1_decades_4 2 rfl rfl)
theorem dX1_decades_97 : decode cX1_decades 97 = .ok (.if_icmp .ne 7, 3) := dk_160 0 7 (dk_at dksX1_decades_4 3 rfl rfl)
theorem dX1_decades_100 : decode cX1_decades 100 = .ok (.iload 6, 2) := dk_21 6 (dk_at dksX1_decades_4 6 rfl rfl)
theorem dX1_decades_102 : decode cX1_decades 102 = .ok (.istore 5, 2) := dk_54 5 (dk_at dksX1_decades_4 8 rfl rfl)
theorem dX1_decades_104 : decode cX1_decades 104 = .ok (.iinc 6 1, 3) := dk_132 6 1 (dk_at dksX1_decades_4 10 rfl rfl)
theorem dX1_decades_107 : decode cX1_decades 107 = .ok (.goto (-63), 3) := dk_167 255 193 (dk_at dksX1_decades_4 13 rfl rfl)
theorem dX1_decades_110 : decode cX1_decades 110 = .ok (.iload_n 3, 1) := dk_29 (dk_at dksX1_decades_4 16 rfl rfl)
theorem dX1_decades_111 : decode cX1_decades 111 = .ok (.ifCond .ne 8, 3) := dk_154 0 8 (dk_at dksX1_decades_4 17 rfl rfl)
theorem dX1_decades_114 : decode cX1_decades 114 = .ok (.iload 4, 2) := dk_21 4 (dk_at dksX1_decades_4 20 rfl rfl)
theorem dX1_decades_116 : decode cX1_decades 116 = .ok (.goto 39, 3) := dk_167 0 39 (dk_at dksX1_decades_5 0 rfl rfl)
theorem dX1_decades_119 : decode cX1_decades 119 = .ok (.iload_n 3, 1) := dk_29 (dk_at dksX1_decades_5 3 rfl rfl)
theorem dX1_decades_120 : decode cX1_decades 120 = .ok (.iconst 1, 1) := dk_4 (dk_at dksX1_decades_5 4 rfl rfl)
theorem dX1_decades_121 : decode cX1_decades 121 = .ok (.if_icmp .ne 8, 3) := dk_160 0 8 (dk_at dksX1_decades_5 5 rfl rfl)
theorem dX1_decades_124 : decode cX1_decades 124 = .ok (.iload 5, 2) := dk_21 5 (dk_at dksX1_decades_5 8 rfl rfl)
theorem dX1_decades_126 : decode cX1_decades 126 = .ok (.goto 29, 3) := dk_167 0 29 (dk_at dksX1_decades_5 10 rfl rfl)
theorem dX1_decades_129 : decode cX1_decades 129 = .ok (.aload_n 0, 1) := dk_42 (dk_at dksX1_decades_5 13 rfl rfl)
theorem dX1_decades_130 : decode cX1_decades 130 = .ok (.getfield 34, 3) := dk_180 0 34 (dk_at dksX1_decades_5 14 rfl rfl)
theorem dX1_decades_133 : decode cX1_decades 133 = .ok (.getfield 95, 3) := dk_180 0 95 (dk_at dksX1_decades_5 17 rfl rfl)
theorem dX1_decades_136 : decode cX1_decades 136 = .ok (.ifCond .ne 7, 3) := dk_154 0 7 (dk_at dksX1_decades_5 20 rfl rfl)
theorem dX1_decades_139 : decode cX1_decades 139 = .ok (.iconst 0, 1) := dk_3 (dk_at dksX1_decades_5 23 rfl rfl)
theorem dX1_decades_140 : decode cX1_decades 140 = .ok (.goto 15, 3) := dk_167 0 15 (dk_at dksX1_decades_6 0 rfl rfl)
theorem dX1_decades_143 : decode cX1_decades 143 = .ok (.aload_n 0, 1) := dk_42 (dk_at dksX1_decades_6 3 rfl rfl)
theorem dX1_decades_144 : decode cX1_decades 144 = .ok (.getfield 34, 3) := dk_180 0 34 (dk_at dksX1_decades_6 4 rfl rfl)
theorem dX1_decades_147 : decode cX1_decades 147 = .ok (.aload_n 0, 1) := dk_42 (dk_at dksX1_decades_6 7 rfl rfl)
theorem dX1_decades_148 : decode cX1_decades 148 = .ok (.getfield 10, 3) := dk_180 0 10 (dk_at dksX1_decades_6 8 rfl rfl)
theorem dX1_decades_151 : decode cX1_decades 151 = .ok (.iconst 0, 1) := dk_3 (dk_at dksX1_decades_6 11 rfl rfl)
theorem dX1_decades_152 : decode cX1_decades 152 = .ok (.invokevirtual 198, 3) := dk_182 0 198 (dk_at dksX1_decades_6 12 rfl rfl)
theorem dX1_decades_155 : decode cX1_decades 155 = .ok (.ireturn, 1) := dk_172 (dk_at dksX1_decades_6 15 rfl rfl)
abbrev cX1_happens : ByteArray := prog_1_method_72_code
def yX1_happens : MethodName := ⟨RX1, "happens", "()V"⟩
def dkwX1_happens_5 : List UInt8 := [192, 0, 93, 180, 0, 180, 96, 79, 177]
abbrev dktX1_happens_5 : List UInt8 := dkwX1_happens_5 ++ []
def dkwX1_happens_4 : List UInt8 := [159, 0, 32, 42, 180, 0, 34, 180, 0, 183, 27, 92, 46, 42, 180, 0, 10, 180, 0, 73, 27, 182, 0, 89]
abbrev dktX1_happens_4 : List UInt8 := dkwX1_happens_4 ++ dktX1_happens_5
def dkwX1_happens_3 : List UInt8 := [4, 100, 184, 1, 53, 79, 167, 0, 49, 28, 5, 160, 0, 44, 42, 180, 0, 34, 27, 182, 0, 189, 2]
abbrev dktX1_happens_3 : List UInt8 := dkwX1_happens_3 ++ dktX1_happens_4
def dkwX1_happens_2 : List UInt8 := [28, 4, 160, 0, 31, 42, 180, 0, 34, 180, 0, 177, 27, 16, 247, 42, 180, 0, 34, 180, 0, 177, 27, 46]
abbrev dktX1_happens_2 : List UInt8 := dkwX1_happens_2 ++ dktX1_happens_3
def dkwX1_happens_1 : List UInt8 := [180, 0, 177, 27, 16, 9, 42, 180, 0, 34, 180, 0, 177, 27, 46, 4, 96, 184, 1, 40, 79, 167, 0, 82]
abbrev dktX1_happens_1 : List UInt8 := dkwX1_happens_1 ++ dktX1_happens_2
def dkwX1_happens_0 : List UInt8 := [42, 42, 182, 0, 83, 182, 1, 88, 60, 42, 8, 182, 1, 88, 61, 28, 154, 0, 31, 42, 180, 0, 34]
abbrev dktX1_happens_0 : List UInt8 := dkwX1_happens_0 ++ dktX1_happens_1
theorem dksX1_happens_0 : cX1_happens.data.toList.drop 0 = dktX1_happens_0 := by decide +kernel
theorem dksX1_happens_1 : cX1_happens.data.toList.drop 23 = dktX1_happens_1 := dk_seg dksX1_happens_0 23 rfl rfl
theorem dksX1_happens_2 : cX1_happens.data.toList.drop 47 = dktX1_happens_2 := dk_seg dksX1_happens_1 24 rfl rfl
theorem dksX1_happens_3 : cX1_happens.data.toList.drop 71 = dktX1_happens_3 := dk_seg dksX1_happens_2 24 rfl rfl
theorem dksX1_happens_4 : cX1_happens.data.toList.drop 94 = dktX1_happens_4 := dk_seg dksX1_happens_3 23 rfl rfl
theorem dksX1_happens_5 : cX1_happens.data.toList.drop 118 = dktX1_happens_5 := dk_seg dksX1_happens_4 24 rfl rfl
theorem dX1_happens_0 : decode cX1_happens 0 = .ok (.aload_n 0, 1) := dk_42 (dk_at dksX1_happens_0 0 rfl rfl)
theorem dX1_happens_1 : decode cX1_happens 1 = .ok (.aload_n 0, 1) := dk_42 (dk_at dksX1_happens_0 1 rfl rfl)
theorem dX1_happens_2 : decode cX1_happens 2 = .ok (.invokevirtual 83, 3) := dk_182 0 83 (dk_at dksX1_happens_0 2 rfl rfl)
theorem dX1_happens_5 : decode cX1_happens 5 = .ok (.invokevirtual 344, 3) := dk_182 1 88 (dk_at dksX1_happens_0 5 rfl rfl)
theorem dX1_happens_8 : decode cX1_happens 8 = .ok (.istore_n 1, 1) := dk_60 (dk_at dksX1_happens_0 8 rfl rfl)
theorem dX1_happens_9 : decode cX1_happens 9 = .ok (.aload_n 0, 1) := dk_42 (dk_at dksX1_happens_0 9 rfl rfl)
theorem dX1_happens_10 : decode cX1_happens 10 = .ok (.iconst 5, 1) := dk_8 (dk_at dksX1_happens_0 10 rfl rfl)
theorem dX1_happens_11 : decode cX1_happens 11 = .ok (.invokevirtual 344, 3) := dk_182 1 88 (dk_at dksX1_happens_0 11 rfl rfl)
theorem dX1_happens_14 : decode cX1_happens 14 = .ok (.istore_n 2, 1) := dk_61 (dk_at dksX1_happens_0 14 rfl rfl)
theorem dX1_happens_15 : decode cX1_happens 15 = .ok (.iload_n 2, 1) := dk_28 (dk_at dksX1_happens_0 15 rfl rfl)
theorem dX1_happens_16 : decode cX1_happens 16 = .ok (.ifCond .ne 31, 3) := dk_154 0 31 (dk_at dksX1_happens_0 16 rfl rfl)
theorem dX1_happens_19 : decode cX1_happens 19 = .ok (.aload_n 0, 1) := dk_42 (dk_at dksX1_happens_0 19 rfl rfl)
theorem dX1_happens_20 : decode cX1_happens 20 = .ok (.getfield 34, 3) := dk_180 0 34 (dk_at dksX1_happens_0 20 rfl rfl)
theorem dX1_happens_23 : decode cX1_happens 23 = .ok (.getfield 177, 3) := dk_180 0 177 (dk_at dksX1_happens_1 0 rfl rfl)
theorem dX1_happens_26 : decode cX1_happens 26 = .ok (.iload_n 1, 1) := dk_27 (dk_at dksX1_happens_1 3 rfl rfl)
theorem dX1_happens_27 : decode cX1_happens 27 = .ok (.bipush 9, 2) := dk_16 9 (dk_at dksX1_happens_1 4 rfl rfl)
theorem dX1_happens_29 : decode cX1_happens 29 = .ok (.aload_n 0, 1) := dk_42 (dk_at dksX1_happens_1 6 rfl rfl)
theorem dX1_happens_30 : decode cX1_happens 30 = .ok (.getfield 34, 3) := dk_180 0 34 (dk_at dksX1_happens_1 7 rfl rfl)
theorem dX1_happens_33 : decode cX1_happens 33 = .ok (.getfield 177, 3) := dk_180 0 177 (dk_at dksX1_happens_1 10 rfl rfl)
theorem dX1_happens_36 : decode cX1_happens 36 = .ok (.iload_n 1, 1) := dk_27 (dk_at dksX1_happens_1 13 rfl rfl)
theorem dX1_happens_37 : decode cX1_happens 37 = .ok (.iaload, 1) := dk_46 (dk_at dksX1_happens_1 14 rfl rfl)
theorem dX1_happens_38 : decode cX1_happens 38 = .ok (.iconst 1, 1) := dk_4 (dk_at dksX1_happens_1 15 rfl rfl)
theorem dX1_happens_39 : decode cX1_happens 39 = .ok (.iadd, 1) := dk_96 (dk_at dksX1_happens_1 16 rfl rfl)
theorem dX1_happens_40 : decode cX1_happens 40 = .ok (.invokestatic 296, 3) := dk_184 1 40 (dk_at dksX1_happens_1 17 rfl rfl)
theorem dX1_happens_43 : decode cX1_happens 43 = .ok (.iastore, 1) := dk_79 (dk_at dksX1_happens_1 20 rfl rfl)
theorem dX1_happens_44 : decode cX1_happens 44 = .ok (.goto 82, 3) := dk_167 0 82 (dk_at dksX1_happens_1 21 rfl rfl)
theorem dX1_happens_47 : decode cX1_happens 47 = .ok (.iload_n 2, 1) := dk_28 (dk_at dksX1_happens_2 0 rfl rfl)
theorem dX1_happens_48 : decode cX1_happens 48 = .ok (.iconst 1, 1) := dk_4 (dk_at dksX1_happens_2 1 rfl rfl)
theorem dX1_happens_49 : decode cX1_happens 49 = .ok (.if_icmp .ne 31, 3) := dk_160 0 31 (dk_at dksX1_happens_2 2 rfl rfl)
theorem dX1_happens_52 : decode cX1_happens 52 = .ok (.aload_n 0, 1) := dk_42 (dk_at dksX1_happens_2 5 rfl rfl)
theorem dX1_happens_53 : decode cX1_happens 53 = .ok (.getfield 34, 3) := dk_180 0 34 (dk_at dksX1_happens_2 6 rfl rfl)
theorem dX1_happens_56 : decode cX1_happens 56 = .ok (.getfield 177, 3) := dk_180 0 177 (dk_at dksX1_happens_2 9 rfl rfl)
theorem dX1_happens_59 : decode cX1_happens 59 = .ok (.iload_n 1, 1) := dk_27 (dk_at dksX1_happens_2 12 rfl rfl)
theorem dX1_happens_60 : decode cX1_happens 60 = .ok (.bipush (-9), 2) := dk_16 247 (dk_at dksX1_happens_2 13 rfl rfl)
theorem dX1_happens_62 : decode cX1_happens 62 = .ok (.aload_n 0, 1) := dk_42 (dk_at dksX1_happens_2 15 rfl rfl)
theorem dX1_happens_63 : decode cX1_happens 63 = .ok (.getfield 34, 3) := dk_180 0 34 (dk_at dksX1_happens_2 16 rfl rfl)
theorem dX1_happens_66 : decode cX1_happens 66 = .ok (.getfield 177, 3) := dk_180 0 177 (dk_at dksX1_happens_2 19 rfl rfl)
theorem dX1_happens_69 : decode cX1_happens 69 = .ok (.iload_n 1, 1) := dk_27 (dk_at dksX1_happens_2 22 rfl rfl)
theorem dX1_happens_70 : decode cX1_happens 70 = .ok (.iaload, 1) := dk_46 (dk_at dksX1_happens_2 23 rfl rfl)
theorem dX1_happens_71 : decode cX1_happens 71 = .ok (.iconst 1, 1) := dk_4 (dk_at dksX1_happens_3 0 rfl rfl)
theorem dX1_happens_72 : decode cX1_happens 72 = .ok (.isub, 1) := dk_100 (dk_at dksX1_happens_3 1 rfl rfl)
theorem dX1_happens_73 : decode cX1_happens 73 = .ok (.invokestatic 309, 3) := dk_184 1 53 (dk_at dksX1_happens_3 2 rfl rfl)
theorem dX1_happens_76 : decode cX1_happens 76 = .ok (.iastore, 1) := dk_79 (dk_at dksX1_happens_3 5 rfl rfl)
theorem dX1_happens_77 : decode cX1_happens 77 = .ok (.goto 49, 3) := dk_167 0 49 (dk_at dksX1_happens_3 6 rfl rfl)
theorem dX1_happens_80 : decode cX1_happens 80 = .ok (.iload_n 2, 1) := dk_28 (dk_at dksX1_happens_3 9 rfl rfl)
theorem dX1_happens_81 : decode cX1_happens 81 = .ok (.iconst 2, 1) := dk_5 (dk_at dksX1_happens_3 10 rfl rfl)
theorem dX1_happens_82 : decode cX1_happens 82 = .ok (.if_icmp .ne 44, 3) := dk_160 0 44 (dk_at dksX1_happens_3 11 rfl rfl)
theorem dX1_happens_85 : decode cX1_happens 85 = .ok (.aload_n 0, 1) := dk_42 (dk_at dksX1_happens_3 14 rfl rfl)
theorem dX1_happens_86 : decode cX1_happens 86 = .ok (.getfield 34, 3) := dk_180 0 34 (dk_at dksX1_happens_3 15 rfl rfl)
theorem dX1_happens_89 : decode cX1_happens 89 = .ok (.iload_n 1, 1) := dk_27 (dk_at dksX1_happens_3 18 rfl rfl)
theorem dX1_happens_90 : decode cX1_happens 90 = .ok (.invokevirtual 189, 3) := dk_182 0 189 (dk_at dksX1_happens_3 19 rfl rfl)
theorem dX1_happens_93 : decode cX1_happens 93 = .ok (.iconst (-1), 1) := dk_2 (dk_at dksX1_happens_3 22 rfl rfl)
theorem dX1_happens_94 : decode cX1_happens 94 = .ok (.if_icmp .eq 32, 3) := dk_159 0 32 (dk_at dksX1_happens_4 0 rfl rfl)
theorem dX1_happens_97 : decode cX1_happens 97 = .ok (.aload_n 0, 1) := dk_42 (dk_at dksX1_happens_4 3 rfl rfl)
theorem dX1_happens_98 : decode cX1_happens 98 = .ok (.getfield 34, 3) := dk_180 0 34 (dk_at dksX1_happens_4 4 rfl rfl)
theorem dX1_happens_101 : decode cX1_happens 101 = .ok (.getfield 183, 3) := dk_180 0 183 (dk_at dksX1_happens_4 7 rfl rfl)
theorem dX1_happens_104 : decode cX1_happens 104 = .ok (.iload_n 1, 1) := dk_27 (dk_at dksX1_happens_4 10 rfl rfl)
theorem dX1_happens_105 : decode cX1_happens 105 = .ok (.dup2, 1) := dk_92 (dk_at dksX1_happens_4 11 rfl rfl)
theorem dX1_happens_106 : decode cX1_happens 106 = .ok (.iaload, 1) := dk_46 (dk_at dksX1_happens_4 12 rfl rfl)
theorem dX1_happens_107 : decode cX1_happens 107 = .ok (.aload_n 0, 1) := dk_42 (dk_at dksX1_happens_4 13 rfl rfl)
theorem dX1_happens_108 : decode cX1_happens 108 = .ok (.getfield 10, 3) := dk_180 0 10 (dk_at dksX1_happens_4 14 rfl rfl)
theorem dX1_happens_111 : decode cX1_happens 111 = .ok (.getfield 73, 3) := dk_180 0 73 (dk_at dksX1_happens_4 17 rfl rfl)
theorem dX1_happens_114 : decode cX1_happens 114 = .ok (.iload_n 1, 1) := dk_27 (dk_at dksX1_happens_4 20 rfl rfl)
theorem dX1_happens_115 : decode cX1_happens 115 = .ok (.invokevirtual 89, 3) := dk_182 0 89 (dk_at dksX1_happens_4 21 rfl rfl)
theorem dX1_happens_118 : decode cX1_happens 118 = .ok (.checkcast 93, 3) := dk_192 0 93 (dk_at dksX1_happens_5 0 rfl rfl)
theorem dX1_happens_121 : decode cX1_happens 121 = .ok (.getfield 180, 3) := dk_180 0 180 (dk_at dksX1_happens_5 3 rfl rfl)
theorem dX1_happens_124 : decode cX1_happens 124 = .ok (.iadd, 1) := dk_96 (dk_at dksX1_happens_5 6 rfl rfl)
theorem dX1_happens_125 : decode cX1_happens 125 = .ok (.iastore, 1) := dk_79 (dk_at dksX1_happens_5 7 rfl rfl)
theorem dX1_happens_126 : decode cX1_happens 126 = .ok (.return_, 1) := dk_177 (dk_at dksX1_happens_5 8 rfl rfl)
abbrev cX1_draw : ByteArray := prog_1_method_71_code
def yX1_draw : MethodName := ⟨RX1, "draw", "(I)I"⟩
def dkwX1_draw_1 : List UInt8 := [17, 127, 255, 126, 27, 112, 172]
abbrev dktX1_draw_1 : List UInt8 := dkwX1_draw_1 ++ []
def dkwX1_draw_0 : List UInt8 := [42, 42, 180, 1, 84, 19, 1, 87, 104, 17, 48, 57, 96, 181, 1, 84, 42, 180, 1, 84, 16, 16, 122]
abbrev dktX1_draw_0 : List UInt8 := dkwX1_draw_0 ++ dktX1_draw_1
theorem dksX1_draw_0 : cX1_draw.data.toList.drop 0 = dktX1_draw_0 := by decide +kernel
theorem dksX1_draw_1 : cX1_draw.data.toList.drop 23 = dktX1_draw_1 := dk_seg dksX1_draw_0 23 rfl rfl
theorem dX1_draw_0 : decode cX1_draw 0 = .ok (.aload_n 0, 1) := dk_42 (dk_at dksX1_draw_0 0 rfl rfl)
theorem dX1_draw_1 : decode cX1_draw 1 = .ok (.aload_n 0, 1) := dk_42 (dk_at dksX1_draw_0 1 rfl rfl)
theorem dX1_draw_2 : decode cX1_draw 2 = .ok (.getfield 340, 3) := dk_180 1 84 (dk_at dksX1_draw_0 2 rfl rfl)
theorem dX1_draw_5 : decode cX1_draw 5 = .ok (.ldc_w 343, 3) := dk_19 1 87 (dk_at dksX1_draw_0 5 rfl rfl)
theorem dX1_draw_8 : decode cX1_draw 8 = .ok (.imul, 1) := dk_104 (dk_at dksX1_draw_0 8 rfl rfl)
theorem dX1_draw_9 : decode cX1_draw 9 = .ok (.sipush 12345, 3) := dk_17 48 57 (dk_at dksX1_draw_0 9 rfl rfl)
theorem dX1_draw_12 : decode cX1_draw 12 = .ok (.iadd, 1) := dk_96 (dk_at dksX1_draw_0 12 rfl rfl)
theorem dX1_draw_13 : decode cX1_draw 13 = .ok (.putfield 340, 3) := dk_181 1 84 (dk_at dksX1_draw_0 13 rfl rfl)
theorem dX1_draw_16 : decode cX1_draw 16 = .ok (.aload_n 0, 1) := dk_42 (dk_at dksX1_draw_0 16 rfl rfl)
theorem dX1_draw_17 : decode cX1_draw 17 = .ok (.getfield 340, 3) := dk_180 1 84 (dk_at dksX1_draw_0 17 rfl rfl)
theorem dX1_draw_20 : decode cX1_draw 20 = .ok (.bipush 16, 2) := dk_16 16 (dk_at dksX1_draw_0 20 rfl rfl)
theorem dX1_draw_22 : decode cX1_draw 22 = .ok (.ishr, 1) := dk_122 (dk_at dksX1_draw_0 22 rfl rfl)
theorem dX1_draw_23 : decode cX1_draw 23 = .ok (.sipush 32767, 3) := dk_17 127 255 (dk_at dksX1_draw_1 0 rfl rfl)
theorem dX1_draw_26 : decode cX1_draw 26 = .ok (.iand, 1) := dk_126 (dk_at dksX1_draw_1 3 rfl rfl)
theorem dX1_draw_27 : decode cX1_draw 27 = .ok (.iload_n 1, 1) := dk_27 (dk_at dksX1_draw_1 4 rfl rfl)
theorem dX1_draw_28 : decode cX1_draw 28 = .ok (.irem, 1) := dk_112 (dk_at dksX1_draw_1 5 rfl rfl)
theorem dX1_draw_29 : decode cX1_draw 29 = .ok (.ireturn, 1) := dk_172 (dk_at dksX1_draw_1 6 rfl rfl)
theorem q107 : (Jvm.Cond.initialized "TableTower") ∈ lw_all := lw_g (lw_at lw_m1 1 rfl) rfl
theorem q149 : (Jvm.Cond.instantiable "TableTower" (15 : Nat)) ∈ lw_all := lw_g (lw_at lw_m1 43 rfl) rfl
theorem q151 : (Jvm.Cond.instanceMethod ({ cls := "TableTower", name := "<init>", desc := "()V" } : Jvm.MethodName)) ∈ lw_all := lw_g (lw_at lw_m1 45 rfl) rfl
theorem q152 : (Jvm.Cond.code ({ cls := "TableTower", name := "<init>", desc := "()V" } : Jvm.MethodName) prog_1_method_1_code (1 : Nat) (Option.none : Option Jvm.ClassFile.FieldType)) ∈ lw_all := lw_g (lw_at lw_m1 46 rfl) rfl
theorem q153 : (Jvm.Cond.methodLink "TableTower" (1 : Nat) ({ cls := "java/lang/Object", name := "<init>", desc := "()V" } : Jvm.MethodName)) ∈ lw_all := lw_g (lw_at lw_m1 47 rfl) rfl
theorem q156 : (Jvm.Cond.classLink "TableTower" (7 : Nat) "TableTower$Town") ∈ lw_all := lw_g (lw_at lw_m1 50 rfl) rfl
theorem q158 : (Jvm.Cond.methodLinkNest "TableTower" (9 : Nat) ({ cls := "TableTower$Town", name := "<init>", desc := "()V" } : Jvm.MethodName) "TableTower") ∈ lw_tbl := lw_at lw_m1 52 rfl
theorem q528 : (Jvm.Cond.fieldLinkNest "TableTower" (141 : Nat) "TableTower$Town" "limit" "I" "TableTower") ∈ lw_tbl := lw_at lw_m2 182 rfl
theorem q531 : (Jvm.Cond.fieldLinkNest "TableTower" (144 : Nat) "TableTower$Town" "food" "I" "TableTower") ∈ lw_tbl := lw_at lw_m2 185 rfl
theorem q534 : (Jvm.Cond.fieldLinkNest "TableTower" (73 : Nat) "TableTower$Town" "tables" "Ljava/util/ArrayList;" "TableTower") ∈ lw_tbl := lw_at lw_m2 188 rfl
theorem q550 : (Jvm.Cond.classLink "TableTower" (16 : Nat) "TableTower$Book") ∈ lw_all := lw_g (lw_at lw_m2 204 rfl) rfl
theorem q552 : (Jvm.Cond.methodLink "TableTower" (18 : Nat) ({ cls := "TableTower$Book", name := "<init>", desc := "()V" } : Jvm.MethodName)) ∈ lw_all := lw_g (lw_at lw_m2 206 rfl) rfl
theorem q563 : (Jvm.Cond.fieldLinkNest "TableTower" (195 : Nat) "TableTower$State" "tower" "[I" "TableTower") ∈ lw_tbl := lw_at lw_m2 217 rfl
theorem q565 : (Jvm.Cond.fieldLinkNest "TableTower" (183 : Nat) "TableTower$State" "meal" "[I" "TableTower") ∈ lw_tbl := lw_at lw_m2 219 rfl
theorem q567 : (Jvm.Cond.fieldLinkNest "TableTower" (186 : Nat) "TableTower$State" "wedge" "[I" "TableTower") ∈ lw_tbl := lw_at lw_m2 221 rfl
theorem q569 : (Jvm.Cond.fieldLinkNest "TableTower" (177 : Nat) "TableTower$State" "lean" "[I" "TableTower") ∈ lw_tbl := lw_at lw_m2 223 rfl
theorem q571 : (Jvm.Cond.fieldLinkNest "TableTower" (95 : Nat) "TableTower$State" "levels" "I" "TableTower") ∈ lw_tbl := lw_at lw_m2 225 rfl
theorem q573 : (Jvm.Cond.fieldLinkNest "TableTower" (161 : Nat) "TableTower$State" "years" "I" "TableTower") ∈ lw_tbl := lw_at lw_m2 227 rfl
theorem q575 : (Jvm.Cond.fieldLinkNest "TableTower" (155 : Nat) "TableTower$State" "crumbs" "I" "TableTower") ∈ lw_tbl := lw_at lw_m2 229 rfl
theorem q618 : (Jvm.Cond.selects "TableTower" ({ cls := "java/lang/Object", name := "getClass", desc := "()Ljava/lang/Class;" } : Jvm.MethodName) ({ cls := "java/lang/Object", name := "getClass", desc := "()Ljava/lang/Class;" } : Jvm.MethodName)) ∈ lw_all := lw_g (lw_at lw_m3 32 rfl) rfl
theorem q649 : (Jvm.Cond.fieldLinkNest "TableTower" (26 : Nat) "TableTower$Book" "now" "LTableTower$State;" "TableTower") ∈ lw_tbl := lw_at lw_m3 63 rfl
theorem q651 : (Jvm.Cond.fieldLinkNest "TableTower" (236 : Nat) "TableTower$Book" "ahead" "Ljava/util/ArrayList;" "TableTower") ∈ lw_tbl := lw_at lw_m3 65 rfl
theorem q653 : (Jvm.Cond.fieldLinkNest "TableTower" (318 : Nat) "TableTower$Book" "level" "[I" "TableTower") ∈ lw_tbl := lw_at lw_m3 67 rfl
theorem q655 : (Jvm.Cond.fieldLinkNest "TableTower" (321 : Nat) "TableTower$Book" "tilt" "[I" "TableTower") ∈ lw_tbl := lw_at lw_m3 69 rfl
theorem q657 : (Jvm.Cond.fieldLinkNest "TableTower" (121 : Nat) "TableTower$Book" "refused" "[I" "TableTower") ∈ lw_tbl := lw_at lw_m3 71 rfl
theorem q659 : (Jvm.Cond.fieldLinkNest "TableTower" (127 : Nat) "TableTower$Book" "acts" "I" "TableTower") ∈ lw_tbl := lw_at lw_m3 73 rfl
theorem q661 : (Jvm.Cond.fieldLinkNest "TableTower" (130 : Nat) "TableTower$Book" "many" "I" "TableTower") ∈ lw_tbl := lw_at lw_m3 75 rfl
theorem q677 : (Jvm.Cond.classLink "TableTower" (31 : Nat) "TableTower$State") ∈ lw_all := lw_g (lw_at lw_m3 91 rfl) rfl
theorem q678 : (Jvm.Cond.methodLinkNest "TableTower" (33 : Nat) ({ cls := "TableTower$State", name := "<init>", desc := "()V" } : Jvm.MethodName) "TableTower") ∈ lw_tbl := lw_at lw_m3 92 rfl
theorem q679 : (Jvm.Cond.methodLink "TableTower" (63 : Nat) ({ cls := "TableTower$State", name := "begins", desc := "(LTableTower$Town;)V" } : Jvm.MethodName)) ∈ lw_all := lw_g (lw_at lw_m3 93 rfl) rfl
theorem q702 : (Jvm.Cond.fieldLink "TableTower" (10 : Nat) "TableTower" "town" "LTableTower$Town;") ∈ lw_all := lw_g (lw_at lw_m3 116 rfl) rfl
theorem q703 : (Jvm.Cond.fieldLink "TableTower" (19 : Nat) "TableTower" "book" "LTableTower$Book;") ∈ lw_all := lw_g (lw_at lw_m3 117 rfl) rfl
theorem q704 : (Jvm.Cond.fieldLink "TableTower" (23 : Nat) "TableTower" "image" "LTableTower$Book;") ∈ lw_all := lw_g (lw_at lw_m3 118 rfl) rfl
theorem q705 : (Jvm.Cond.fieldLink "TableTower" (30 : Nat) "TableTower" "now" "LTableTower$State;") ∈ lw_all := lw_g (lw_at lw_m3 119 rfl) rfl
theorem q706 : (Jvm.Cond.fieldLink "TableTower" (34 : Nat) "TableTower" "tried" "LTableTower$State;") ∈ lw_all := lw_g (lw_at lw_m3 120 rfl) rfl
theorem q707 : (Jvm.Cond.fieldLink "TableTower" (133 : Nat) "TableTower" "hasImage" "Z") ∈ lw_all := lw_g (lw_at lw_m3 121 rfl) rfl
theorem q708 : (Jvm.Cond.fieldLink "TableTower" (37 : Nat) "TableTower" "tape" "[B") ∈ lw_all := lw_g (lw_at lw_m3 122 rfl) rfl
theorem q709 : (Jvm.Cond.fieldLink "TableTower" (98 : Nat) "TableTower" "taped" "I") ∈ lw_all := lw_g (lw_at lw_m3 123 rfl) rfl
theorem q710 : (Jvm.Cond.fieldLink "TableTower" (41 : Nat) "TableTower" "faultPlace" "I") ∈ lw_all := lw_g (lw_at lw_m3 124 rfl) rfl
theorem q711 : (Jvm.Cond.fieldLink "TableTower" (45 : Nat) "TableTower" "ways" "[J") ∈ lw_all := lw_g (lw_at lw_m3 125 rfl) rfl
theorem q712 : (Jvm.Cond.fieldLink "TableTower" (49 : Nat) "TableTower" "row" "[I") ∈ lw_all := lw_g (lw_at lw_m3 126 rfl) rfl
theorem q713 : (Jvm.Cond.fieldLink "TableTower" (53 : Nat) "TableTower" "keptWedges" "[I") ∈ lw_all := lw_g (lw_at lw_m3 127 rfl) rfl
theorem q714 : (Jvm.Cond.fieldLink "TableTower" (56 : Nat) "TableTower" "couples" "[I") ∈ lw_all := lw_g (lw_at lw_m3 128 rfl) rfl
theorem q715 : (Jvm.Cond.fieldLink "TableTower" (59 : Nat) "TableTower" "isTilt" "[Z") ∈ lw_all := lw_g (lw_at lw_m3 129 rfl) rfl
theorem q716 : (Jvm.Cond.fieldLink "TableTower" (340 : Nat) "TableTower" "its" "I") ∈ lw_all := lw_g (lw_at lw_m3 130 rfl) rfl
theorem q717 : (Jvm.Cond.lays "TableTower" "TableTower" "town" "LTableTower$Town;") ∈ lw_all := lw_g (lw_at lw_m3 131 rfl) rfl
theorem q718 : (Jvm.Cond.soleField "TableTower" "town") ∈ lw_all := lw_g (lw_at lw_m3 132 rfl) rfl
theorem q719 : (Jvm.Cond.laysFinal "TableTower" "TableTower" "book" "LTableTower$Book;") ∈ lw_all := lw_g (lw_at lw_m3 133 rfl) rfl
theorem q720 : (Jvm.Cond.soleField "TableTower" "book") ∈ lw_all := lw_g (lw_at lw_m3 134 rfl) rfl
theorem q721 : (Jvm.Cond.laysFinal "TableTower" "TableTower" "image" "LTableTower$Book;") ∈ lw_all := lw_g (lw_at lw_m3 135 rfl) rfl
theorem q722 : (Jvm.Cond.soleField "TableTower" "image") ∈ lw_all := lw_g (lw_at lw_m3 136 rfl) rfl
theorem q723 : (Jvm.Cond.laysFinal "TableTower" "TableTower" "now" "LTableTower$State;") ∈ lw_all := lw_g (lw_at lw_m3 137 rfl) rfl
theorem q724 : (Jvm.Cond.soleField "TableTower" "now") ∈ lw_all := lw_g (lw_at lw_m3 138 rfl) rfl
theorem q725 : (Jvm.Cond.laysFinal "TableTower" "TableTower" "tried" "LTableTower$State;") ∈ lw_all := lw_g (lw_at lw_m3 139 rfl) rfl
theorem q726 : (Jvm.Cond.soleField "TableTower" "tried") ∈ lw_all := lw_g (lw_at lw_m3 140 rfl) rfl
theorem q727 : (Jvm.Cond.lays "TableTower" "TableTower" "hasImage" "Z") ∈ lw_all := lw_g (lw_at lw_m3 141 rfl) rfl
theorem q728 : (Jvm.Cond.soleField "TableTower" "hasImage") ∈ lw_all := lw_g (lw_at lw_m3 142 rfl) rfl
theorem q729 : (Jvm.Cond.laysFinal "TableTower" "TableTower" "tape" "[B") ∈ lw_all := lw_g (lw_at lw_m3 143 rfl) rfl
theorem q730 : (Jvm.Cond.soleField "TableTower" "tape") ∈ lw_all := lw_g (lw_at lw_m3 144 rfl) rfl
theorem q731 : (Jvm.Cond.lays "TableTower" "TableTower" "taped" "I") ∈ lw_all := lw_g (lw_at lw_m3 145 rfl) rfl
theorem q732 : (Jvm.Cond.soleField "TableTower" "taped") ∈ lw_all := lw_g (lw_at lw_m3 146 rfl) rfl
theorem q733 : (Jvm.Cond.lays "TableTower" "TableTower" "faultPlace" "I") ∈ lw_all := lw_g (lw_at lw_m3 147 rfl) rfl
theorem q734 : (Jvm.Cond.soleField "TableTower" "faultPlace") ∈ lw_all := lw_g (lw_at lw_m3 148 rfl) rfl
theorem q735 : (Jvm.Cond.laysFinal "TableTower" "TableTower" "ways" "[J") ∈ lw_all := lw_g (lw_at lw_m3 149 rfl) rfl
theorem q736 : (Jvm.Cond.soleField "TableTower" "ways") ∈ lw_all := lw_g (lw_at lw_m3 150 rfl) rfl
theorem q737 : (Jvm.Cond.laysFinal "TableTower" "TableTower" "row" "[I") ∈ lw_all := lw_g (lw_at lw_m3 151 rfl) rfl
theorem q738 : (Jvm.Cond.soleField "TableTower" "row") ∈ lw_all := lw_g (lw_at lw_m3 152 rfl) rfl
theorem q739 : (Jvm.Cond.laysFinal "TableTower" "TableTower" "keptWedges" "[I") ∈ lw_all := lw_g (lw_at lw_m3 153 rfl) rfl
theorem q740 : (Jvm.Cond.soleField "TableTower" "keptWedges") ∈ lw_all := lw_g (lw_at lw_m3 154 rfl) rfl
theorem q741 : (Jvm.Cond.laysFinal "TableTower" "TableTower" "couples" "[I") ∈ lw_all := lw_g (lw_at lw_m3 155 rfl) rfl
theorem q742 : (Jvm.Cond.soleField "TableTower" "couples") ∈ lw_all := lw_g (lw_at lw_m3 156 rfl) rfl
theorem q743 : (Jvm.Cond.laysFinal "TableTower" "TableTower" "isTilt" "[Z") ∈ lw_all := lw_g (lw_at lw_m3 157 rfl) rfl
theorem q744 : (Jvm.Cond.soleField "TableTower" "isTilt") ∈ lw_all := lw_g (lw_at lw_m3 158 rfl) rfl
theorem q745 : (Jvm.Cond.lays "TableTower" "TableTower" "its" "I") ∈ lw_all := lw_g (lw_at lw_m3 159 rfl) rfl
theorem q746 : (Jvm.Cond.soleField "TableTower" "its") ∈ lw_all := lw_g (lw_at lw_m3 160 rfl) rfl
theorem q747 : (Jvm.Cond.superclass "TableTower" "java/lang/Object") ∈ lw_all := lw_g (lw_at lw_m3 161 rfl) rfl
theorem q751 : (Jvm.Cond.instanceMethod ({ cls := "TableTower", name := "feed", desc := "(IIIII)I" } : Jvm.MethodName)) ∈ lw_all := lw_g (lw_at lw_m3 165 rfl) rfl
theorem q752 : (Jvm.Cond.selects "TableTower" ({ cls := "TableTower", name := "feed", desc := "(IIIII)I" } : Jvm.MethodName) ({ cls := "TableTower", name := "feed", desc := "(IIIII)I" } : Jvm.MethodName)) ∈ lw_all := lw_g (lw_at lw_m3 166 rfl) rfl
theorem q753 : (Jvm.Cond.code ({ cls := "TableTower", name := "feed", desc := "(IIIII)I" } : Jvm.MethodName) prog_1_method_8_code (6 : Nat) (Option.some Jvm.ClassFile.FieldType.int)) ∈ lw_all := lw_g (lw_at lw_m3 167 rfl) rfl
theorem q754 : (Jvm.Cond.methodLink "TableTower" (101 : Nat) ({ cls := "TableTower", name := "lay", desc := "(I)V" } : Jvm.MethodName)) ∈ lw_all := lw_g (lw_at lw_m3 168 rfl) rfl
theorem q755 : (Jvm.Cond.privateMethod ({ cls := "TableTower", name := "lay", desc := "(I)V" } : Jvm.MethodName)) ∈ lw_tbl := lw_at lw_m3 169 rfl
theorem q756 : (Jvm.Cond.instanceMethod ({ cls := "TableTower", name := "lay", desc := "(I)V" } : Jvm.MethodName)) ∈ lw_all := lw_g (lw_at lw_m3 170 rfl) rfl
theorem q757 : (Jvm.Cond.code ({ cls := "TableTower", name := "lay", desc := "(I)V" } : Jvm.MethodName) prog_1_method_9_code (3 : Nat) (Option.none : Option Jvm.ClassFile.FieldType)) ∈ lw_all := lw_g (lw_at lw_m3 171 rfl) rfl
theorem q759 : (Jvm.Cond.instanceMethod ({ cls := "TableTower", name := "fault", desc := "()I" } : Jvm.MethodName)) ∈ lw_all := lw_g (lw_at lw_m3 173 rfl) rfl
theorem q760 : (Jvm.Cond.selects "TableTower" ({ cls := "TableTower", name := "fault", desc := "()I" } : Jvm.MethodName) ({ cls := "TableTower", name := "fault", desc := "()I" } : Jvm.MethodName)) ∈ lw_all := lw_g (lw_at lw_m3 174 rfl) rfl
theorem q761 : (Jvm.Cond.code ({ cls := "TableTower", name := "fault", desc := "()I" } : Jvm.MethodName) prog_1_method_11_code (1 : Nat) (Option.some Jvm.ClassFile.FieldType.int)) ∈ lw_all := lw_g (lw_at lw_m3 175 rfl) rfl
theorem q763 : (Jvm.Cond.instanceMethod ({ cls := "TableTower", name := "by", desc := "()I" } : Jvm.MethodName)) ∈ lw_all := lw_g (lw_at lw_m3 177 rfl) rfl
theorem q764 : (Jvm.Cond.selects "TableTower" ({ cls := "TableTower", name := "by", desc := "()I" } : Jvm.MethodName) ({ cls := "TableTower", name := "by", desc := "()I" } : Jvm.MethodName)) ∈ lw_all := lw_g (lw_at lw_m3 178 rfl) rfl
theorem q765 : (Jvm.Cond.code ({ cls := "TableTower", name := "by", desc := "()I" } : Jvm.MethodName) prog_1_method_15_code (3 : Nat) (Option.some Jvm.ClassFile.FieldType.int)) ∈ lw_all := lw_g (lw_at lw_m3 179 rfl) rfl
theorem q766 : (Jvm.Cond.methodLink "TableTower" (83 : Nat) ({ cls := "TableTower", name := "tables", desc := "()I" } : Jvm.MethodName)) ∈ lw_all := lw_g (lw_at lw_m3 180 rfl) rfl
theorem q767 : (Jvm.Cond.privateMethod ({ cls := "TableTower", name := "tables", desc := "()I" } : Jvm.MethodName)) ∈ lw_tbl := lw_at lw_m3 181 rfl
theorem q768 : (Jvm.Cond.instanceMethod ({ cls := "TableTower", name := "tables", desc := "()I" } : Jvm.MethodName)) ∈ lw_all := lw_g (lw_at lw_m3 182 rfl) rfl
theorem q769 : (Jvm.Cond.code ({ cls := "TableTower", name := "tables", desc := "()I" } : Jvm.MethodName) prog_1_method_5_code (1 : Nat) (Option.some Jvm.ClassFile.FieldType.int)) ∈ lw_all := lw_g (lw_at lw_m3 183 rfl) rfl
theorem q770 : (Jvm.Cond.methodLink "TableTower" (77 : Nat) ({ cls := "java/util/ArrayList", name := "size", desc := "()I" } : Jvm.MethodName)) ∈ lw_all := lw_g (lw_at lw_m3 184 rfl) rfl
theorem q771 : (Jvm.Cond.methodLink "TableTower" (189 : Nat) ({ cls := "TableTower$State", name := "levelOf", desc := "(I)I" } : Jvm.MethodName)) ∈ lw_all := lw_g (lw_at lw_m3 185 rfl) rfl
theorem q776 : (Jvm.Cond.instanceMethod ({ cls := "TableTower", name := "supper", desc := "()I" } : Jvm.MethodName)) ∈ lw_all := lw_g (lw_at lw_m3 190 rfl) rfl
theorem q777 : (Jvm.Cond.selects "TableTower" ({ cls := "TableTower", name := "supper", desc := "()I" } : Jvm.MethodName) ({ cls := "TableTower", name := "supper", desc := "()I" } : Jvm.MethodName)) ∈ lw_all := lw_g (lw_at lw_m3 191 rfl) rfl
theorem q778 : (Jvm.Cond.code ({ cls := "TableTower", name := "supper", desc := "()I" } : Jvm.MethodName) prog_1_method_24_code (1 : Nat) (Option.some Jvm.ClassFile.FieldType.int)) ∈ lw_all := lw_g (lw_at lw_m3 192 rfl) rfl
theorem q779 : (Jvm.Cond.methodLink "TableTower" (212 : Nat) ({ cls := "TableTower$Book", name := "keeps", desc := "()V" } : Jvm.MethodName)) ∈ lw_all := lw_g (lw_at lw_m3 193 rfl) rfl
theorem q798 : (Jvm.Cond.methodLink "TableTower" (233 : Nat) ({ cls := "TableTower$State", name := "sups", desc := "(LTableTower$Town;I)I" } : Jvm.MethodName)) ∈ lw_all := lw_g (lw_at lw_m3 212 rfl) rfl
theorem q869 : (Jvm.Cond.instanceMethod ({ cls := "TableTower", name := "years", desc := "(I)I" } : Jvm.MethodName)) ∈ lw_all := lw_g (lw_at lw_m4 43 rfl) rfl
theorem q870 : (Jvm.Cond.selects "TableTower" ({ cls := "TableTower", name := "years", desc := "(I)I" } : Jvm.MethodName) ({ cls := "TableTower", name := "years", desc := "(I)I" } : Jvm.MethodName)) ∈ lw_all := lw_g (lw_at lw_m4 44 rfl) rfl
theorem q871 : (Jvm.Cond.code ({ cls := "TableTower", name := "years", desc := "(I)I" } : Jvm.MethodName) prog_1_method_25_code (2 : Nat) (Option.some Jvm.ClassFile.FieldType.int)) ∈ lw_all := lw_g (lw_at lw_m4 45 rfl) rfl
theorem q872 : (Jvm.Cond.methodLink "TableTower" (137 : Nat) ({ cls := "TableTower", name := "within", desc := "(III)Z" } : Jvm.MethodName)) ∈ lw_all := lw_g (lw_at lw_m4 46 rfl) rfl
theorem q873 : (Jvm.Cond.static ({ cls := "TableTower", name := "within", desc := "(III)Z" } : Jvm.MethodName)) ∈ lw_all := lw_g (lw_at lw_m4 47 rfl) rfl
theorem q874 : (Jvm.Cond.code ({ cls := "TableTower", name := "within", desc := "(III)Z" } : Jvm.MethodName) prog_1_method_4_code (3 : Nat) (Option.some Jvm.ClassFile.FieldType.boolean)) ∈ lw_all := lw_g (lw_at lw_m4 48 rfl) rfl
theorem q875 : (Jvm.Cond.methodLink "TableTower" (218 : Nat) ({ cls := "TableTower", name := "does", desc := "(Z)Z" } : Jvm.MethodName)) ∈ lw_all := lw_g (lw_at lw_m4 49 rfl) rfl
theorem q876 : (Jvm.Cond.privateMethod ({ cls := "TableTower", name := "does", desc := "(Z)Z" } : Jvm.MethodName)) ∈ lw_tbl := lw_at lw_m4 50 rfl
theorem q877 : (Jvm.Cond.instanceMethod ({ cls := "TableTower", name := "does", desc := "(Z)Z" } : Jvm.MethodName)) ∈ lw_all := lw_g (lw_at lw_m4 51 rfl) rfl
theorem q878 : (Jvm.Cond.code ({ cls := "TableTower", name := "does", desc := "(Z)Z" } : Jvm.MethodName) prog_1_method_17_code (2 : Nat) (Option.some Jvm.ClassFile.FieldType.boolean)) ∈ lw_all := lw_g (lw_at lw_m4 52 rfl) rfl
theorem q879 : (Jvm.Cond.methodLink "TableTower" (215 : Nat) ({ cls := "TableTower", name := "refuses", desc := "(I)I" } : Jvm.MethodName)) ∈ lw_all := lw_g (lw_at lw_m4 53 rfl) rfl
theorem q880 : (Jvm.Cond.privateMethod ({ cls := "TableTower", name := "refuses", desc := "(I)I" } : Jvm.MethodName)) ∈ lw_tbl := lw_at lw_m4 54 rfl
theorem q881 : (Jvm.Cond.instanceMethod ({ cls := "TableTower", name := "refuses", desc := "(I)I" } : Jvm.MethodName)) ∈ lw_all := lw_g (lw_at lw_m4 55 rfl) rfl
theorem q882 : (Jvm.Cond.code ({ cls := "TableTower", name := "refuses", desc := "(I)I" } : Jvm.MethodName) prog_1_method_16_code (2 : Nat) (Option.some Jvm.ClassFile.FieldType.int)) ∈ lw_all := lw_g (lw_at lw_m4 56 rfl) rfl
theorem q884 : (Jvm.Cond.instanceMethod ({ cls := "TableTower", name := "undo", desc := "()I" } : Jvm.MethodName)) ∈ lw_all := lw_g (lw_at lw_m4 58 rfl) rfl
theorem q885 : (Jvm.Cond.selects "TableTower" ({ cls := "TableTower", name := "undo", desc := "()I" } : Jvm.MethodName) ({ cls := "TableTower", name := "undo", desc := "()I" } : Jvm.MethodName)) ∈ lw_all := lw_g (lw_at lw_m4 59 rfl) rfl
theorem q886 : (Jvm.Cond.code ({ cls := "TableTower", name := "undo", desc := "()I" } : Jvm.MethodName) prog_1_method_26_code (1 : Nat) (Option.some Jvm.ClassFile.FieldType.int)) ∈ lw_all := lw_g (lw_at lw_m4 60 rfl) rfl
theorem q887 : (Jvm.Cond.methodLink "TableTower" (89 : Nat) ({ cls := "java/util/ArrayList", name := "get", desc := "(I)Ljava/lang/Object;" } : Jvm.MethodName)) ∈ lw_all := lw_g (lw_at lw_m4 61 rfl) rfl
theorem q888 : (Jvm.Cond.methodLink "TableTower" (239 : Nat) ({ cls := "TableTower$State", name := "like", desc := "(LTableTower$State;)V" } : Jvm.MethodName)) ∈ lw_all := lw_g (lw_at lw_m4 62 rfl) rfl
theorem q890 : (Jvm.Cond.instanceMethod ({ cls := "TableTower", name := "more", desc := "()I" } : Jvm.MethodName)) ∈ lw_all := lw_g (lw_at lw_m4 64 rfl) rfl
theorem q891 : (Jvm.Cond.selects "TableTower" ({ cls := "TableTower", name := "more", desc := "()I" } : Jvm.MethodName) ({ cls := "TableTower", name := "more", desc := "()I" } : Jvm.MethodName)) ∈ lw_all := lw_g (lw_at lw_m4 65 rfl) rfl
theorem q892 : (Jvm.Cond.code ({ cls := "TableTower", name := "more", desc := "()I" } : Jvm.MethodName) prog_1_method_27_code (1 : Nat) (Option.some Jvm.ClassFile.FieldType.int)) ∈ lw_all := lw_g (lw_at lw_m4 66 rfl) rfl
theorem q893 : (Jvm.Cond.methodLink "TableTower" (243 : Nat) ({ cls := "TableTower", name := "moreOf", desc := "(LTableTower$State;)I" } : Jvm.MethodName)) ∈ lw_all := lw_g (lw_at lw_m4 67 rfl) rfl
theorem q894 : (Jvm.Cond.privateMethod ({ cls := "TableTower", name := "moreOf", desc := "(LTableTower$State;)I" } : Jvm.MethodName)) ∈ lw_tbl := lw_at lw_m4 68 rfl
theorem q895 : (Jvm.Cond.instanceMethod ({ cls := "TableTower", name := "moreOf", desc := "(LTableTower$State;)I" } : Jvm.MethodName)) ∈ lw_all := lw_g (lw_at lw_m4 69 rfl) rfl
theorem q896 : (Jvm.Cond.code ({ cls := "TableTower", name := "moreOf", desc := "(LTableTower$State;)I" } : Jvm.MethodName) prog_1_method_52_code (4 : Nat) (Option.some Jvm.ClassFile.FieldType.int)) ∈ lw_all := lw_g (lw_at lw_m4 70 rfl) rfl
theorem q897 : (Jvm.Cond.methodLink "TableTower" (147 : Nat) ({ cls := "TableTower$State", name := "stands", desc := "(LTableTower$Town;)Z" } : Jvm.MethodName)) ∈ lw_all := lw_g (lw_at lw_m4 71 rfl) rfl
theorem q979 : (Jvm.Cond.methodLink "TableTower" (202 : Nat) ({ cls := "TableTower$State", name := "carries", desc := "(LTableTower$Town;I)I" } : Jvm.MethodName)) ∈ lw_all := lw_g (lw_at lw_m4 153 rfl) rfl
theorem q980 : (Jvm.Cond.methodLink "TableTower" (198 : Nat) ({ cls := "TableTower$State", name := "load", desc := "(LTableTower$Town;I)I" } : Jvm.MethodName)) ∈ lw_all := lw_g (lw_at lw_m4 154 rfl) rfl
theorem q981 : (Jvm.Cond.methodLink "TableTower" (296 : Nat) ({ cls := "java/lang/Math", name := "min", desc := "(II)I" } : Jvm.MethodName)) ∈ lw_all := lw_g (lw_at lw_m4 155 rfl) rfl
theorem q983 : (Jvm.Cond.instanceMethod ({ cls := "TableTower", name := "orders", desc := "()J" } : Jvm.MethodName)) ∈ lw_all := lw_g (lw_at lw_m4 157 rfl) rfl
theorem q984 : (Jvm.Cond.selects "TableTower" ({ cls := "TableTower", name := "orders", desc := "()J" } : Jvm.MethodName) ({ cls := "TableTower", name := "orders", desc := "()J" } : Jvm.MethodName)) ∈ lw_all := lw_g (lw_at lw_m4 158 rfl) rfl
theorem q985 : (Jvm.Cond.code ({ cls := "TableTower", name := "orders", desc := "()J" } : Jvm.MethodName) prog_1_method_37_code (1 : Nat) (Option.some Jvm.ClassFile.FieldType.long)) ∈ lw_all := lw_g (lw_at lw_m4 159 rfl) rfl
theorem q986 : (Jvm.Cond.methodLink "TableTower" (285 : Nat) ({ cls := "TableTower$State", name := "all", desc := "()I" } : Jvm.MethodName)) ∈ lw_all := lw_g (lw_at lw_m4 160 rfl) rfl
theorem q990 : (Jvm.Cond.methodLink "TableTower" (273 : Nat) ({ cls := "TableTower", name := "ordersOf", desc := "(I)J" } : Jvm.MethodName)) ∈ lw_all := lw_g (lw_at lw_m4 164 rfl) rfl
theorem q991 : (Jvm.Cond.privateMethod ({ cls := "TableTower", name := "ordersOf", desc := "(I)J" } : Jvm.MethodName)) ∈ lw_tbl := lw_at lw_m4 165 rfl
theorem q992 : (Jvm.Cond.instanceMethod ({ cls := "TableTower", name := "ordersOf", desc := "(I)J" } : Jvm.MethodName)) ∈ lw_all := lw_g (lw_at lw_m4 166 rfl) rfl
theorem q993 : (Jvm.Cond.code ({ cls := "TableTower", name := "ordersOf", desc := "(I)J" } : Jvm.MethodName) prog_1_method_32_code (2 : Nat) (Option.some Jvm.ClassFile.FieldType.long)) ∈ lw_all := lw_g (lw_at lw_m4 167 rfl) rfl
theorem q994 : (Jvm.Cond.methodLink "TableTower" (264 : Nat) ({ cls := "TableTower", name := "ordersOf", desc := "(III)J" } : Jvm.MethodName)) ∈ lw_all := lw_g (lw_at lw_m4 168 rfl) rfl
theorem q995 : (Jvm.Cond.privateMethod ({ cls := "TableTower", name := "ordersOf", desc := "(III)J" } : Jvm.MethodName)) ∈ lw_tbl := lw_at lw_m4 169 rfl
theorem q996 : (Jvm.Cond.instanceMethod ({ cls := "TableTower", name := "ordersOf", desc := "(III)J" } : Jvm.MethodName)) ∈ lw_all := lw_g (lw_at lw_m4 170 rfl) rfl
theorem q997 : (Jvm.Cond.code ({ cls := "TableTower", name := "ordersOf", desc := "(III)J" } : Jvm.MethodName) prog_1_method_50_code (7 : Nat) (Option.some Jvm.ClassFile.FieldType.long)) ∈ lw_all := lw_g (lw_at lw_m4 171 rfl) rfl
theorem q998 : (Jvm.Cond.methodLink "TableTower" (268 : Nat) ({ cls := "java/lang/Integer", name := "bitCount", desc := "(I)I" } : Jvm.MethodName)) ∈ lw_all := lw_g (lw_at lw_m4 172 rfl) rfl
theorem q1004 : (Jvm.Cond.methodLink "TableTower" (279 : Nat) ({ cls := "TableTower", name := "holds", desc := "(III)Z" } : Jvm.MethodName)) ∈ lw_all := lw_g (lw_at lw_m4 178 rfl) rfl
theorem q1005 : (Jvm.Cond.privateMethod ({ cls := "TableTower", name := "holds", desc := "(III)Z" } : Jvm.MethodName)) ∈ lw_tbl := lw_at lw_m4 179 rfl
theorem q1006 : (Jvm.Cond.instanceMethod ({ cls := "TableTower", name := "holds", desc := "(III)Z" } : Jvm.MethodName)) ∈ lw_all := lw_g (lw_at lw_m4 180 rfl) rfl
theorem q1007 : (Jvm.Cond.code ({ cls := "TableTower", name := "holds", desc := "(III)Z" } : Jvm.MethodName) prog_1_method_31_code (7 : Nat) (Option.some Jvm.ClassFile.FieldType.boolean)) ∈ lw_all := lw_g (lw_at lw_m4 181 rfl) rfl
theorem q1008 : (Jvm.Cond.classLink "TableTower" (93 : Nat) "TableTower$Pine") ∈ lw_all := lw_g (lw_at lw_m4 182 rfl) rfl
theorem q1009 : (Jvm.Cond.methodLink "TableTower" (250 : Nat) ({ cls := "TableTower", name := "weights", desc := "(I)I" } : Jvm.MethodName)) ∈ lw_all := lw_g (lw_at lw_m4 183 rfl) rfl
theorem q1010 : (Jvm.Cond.privateMethod ({ cls := "TableTower", name := "weights", desc := "(I)I" } : Jvm.MethodName)) ∈ lw_tbl := lw_at lw_m4 184 rfl
theorem q1011 : (Jvm.Cond.instanceMethod ({ cls := "TableTower", name := "weights", desc := "(I)I" } : Jvm.MethodName)) ∈ lw_all := lw_g (lw_at lw_m4 185 rfl) rfl
theorem q1012 : (Jvm.Cond.code ({ cls := "TableTower", name := "weights", desc := "(I)I" } : Jvm.MethodName) prog_1_method_29_code (4 : Nat) (Option.some Jvm.ClassFile.FieldType.int)) ∈ lw_all := lw_g (lw_at lw_m4 186 rfl) rfl
theorem q1013 : (Jvm.Cond.methodLink "TableTower" (253 : Nat) ({ cls := "TableTower$Pine", name := "carriesBy", desc := "(IZ)I" } : Jvm.MethodName)) ∈ lw_all := lw_g (lw_at lw_m4 187 rfl) rfl
theorem q1014 : (Jvm.Cond.methodLink "TableTower" (257 : Nat) ({ cls := "TableTower", name := "leans", desc := "(I)I" } : Jvm.MethodName)) ∈ lw_all := lw_g (lw_at lw_m4 188 rfl) rfl
theorem q1015 : (Jvm.Cond.privateMethod ({ cls := "TableTower", name := "leans", desc := "(I)I" } : Jvm.MethodName)) ∈ lw_tbl := lw_at lw_m4 189 rfl
theorem q1016 : (Jvm.Cond.instanceMethod ({ cls := "TableTower", name := "leans", desc := "(I)I" } : Jvm.MethodName)) ∈ lw_all := lw_g (lw_at lw_m4 190 rfl) rfl
theorem q1017 : (Jvm.Cond.code ({ cls := "TableTower", name := "leans", desc := "(I)I" } : Jvm.MethodName) prog_1_method_30_code (4 : Nat) (Option.some Jvm.ClassFile.FieldType.int)) ∈ lw_all := lw_g (lw_at lw_m4 191 rfl) rfl
theorem q1018 : (Jvm.Cond.methodLink "TableTower" (247 : Nat) ({ cls := "TableTower$State", name := "leans", desc := "(LTableTower$Town;I)I" } : Jvm.MethodName)) ∈ lw_all := lw_g (lw_at lw_m4 192 rfl) rfl
theorem q1019 : (Jvm.Cond.methodLink "TableTower" (259 : Nat) ({ cls := "java/lang/Math", name := "abs", desc := "(I)I" } : Jvm.MethodName)) ∈ lw_all := lw_g (lw_at lw_m4 193 rfl) rfl
theorem q1021 : (Jvm.Cond.instanceMethod ({ cls := "TableTower", name := "wedges", desc := "()I" } : Jvm.MethodName)) ∈ lw_all := lw_g (lw_at lw_m4 195 rfl) rfl
theorem q1022 : (Jvm.Cond.selects "TableTower" ({ cls := "TableTower", name := "wedges", desc := "()I" } : Jvm.MethodName) ({ cls := "TableTower", name := "wedges", desc := "()I" } : Jvm.MethodName)) ∈ lw_all := lw_g (lw_at lw_m4 196 rfl) rfl
theorem q1023 : (Jvm.Cond.code ({ cls := "TableTower", name := "wedges", desc := "()I" } : Jvm.MethodName) prog_1_method_39_code (2 : Nat) (Option.some Jvm.ClassFile.FieldType.int)) ∈ lw_all := lw_g (lw_at lw_m4 197 rfl) rfl
theorem q1024 : (Jvm.Cond.methodLink "TableTower" (292 : Nat) ({ cls := "TableTower", name := "wedgesFrom", desc := "(II[I)I" } : Jvm.MethodName)) ∈ lw_all := lw_g (lw_at lw_m4 198 rfl) rfl
theorem q1025 : (Jvm.Cond.privateMethod ({ cls := "TableTower", name := "wedgesFrom", desc := "(II[I)I" } : Jvm.MethodName)) ∈ lw_tbl := lw_at lw_m4 199 rfl
theorem q1026 : (Jvm.Cond.instanceMethod ({ cls := "TableTower", name := "wedgesFrom", desc := "(II[I)I" } : Jvm.MethodName)) ∈ lw_all := lw_g (lw_at lw_m4 200 rfl) rfl
theorem q1027 : (Jvm.Cond.code ({ cls := "TableTower", name := "wedgesFrom", desc := "(II[I)I" } : Jvm.MethodName) prog_1_method_38_code (9 : Nat) (Option.some Jvm.ClassFile.FieldType.int)) ∈ lw_all := lw_g (lw_at lw_m4 201 rfl) rfl
theorem q1028 : (Jvm.Cond.constant "TableTower" (288 : Nat) (100000 : Int32)) ∈ lw_all := lw_g (lw_at lw_m4 202 rfl) rfl
theorem q1029 : (Jvm.Cond.methodLink "TableTower" (289 : Nat) ({ cls := "TableTower$Pine", name := "times", desc := "()I" } : Jvm.MethodName)) ∈ lw_all := lw_g (lw_at lw_m4 203 rfl) rfl
theorem q1031 : (Jvm.Cond.instanceMethod ({ cls := "TableTower", name := "when", desc := "()I" } : Jvm.MethodName)) ∈ lw_all := lw_g (lw_at lw_m4 205 rfl) rfl
theorem q1032 : (Jvm.Cond.selects "TableTower" ({ cls := "TableTower", name := "when", desc := "()I" } : Jvm.MethodName) ({ cls := "TableTower", name := "when", desc := "()I" } : Jvm.MethodName)) ∈ lw_all := lw_g (lw_at lw_m4 206 rfl) rfl
theorem q1033 : (Jvm.Cond.code ({ cls := "TableTower", name := "when", desc := "()I" } : Jvm.MethodName) prog_1_method_40_code (2 : Nat) (Option.some Jvm.ClassFile.FieldType.int)) ∈ lw_all := lw_g (lw_at lw_m4 207 rfl) rfl
theorem q1035 : (Jvm.Cond.instanceMethod ({ cls := "TableTower", name := "marriages", desc := "()I" } : Jvm.MethodName)) ∈ lw_all := lw_g (lw_at lw_m4 209 rfl) rfl
theorem q1036 : (Jvm.Cond.selects "TableTower" ({ cls := "TableTower", name := "marriages", desc := "()I" } : Jvm.MethodName) ({ cls := "TableTower", name := "marriages", desc := "()I" } : Jvm.MethodName)) ∈ lw_all := lw_g (lw_at lw_m4 210 rfl) rfl
theorem q1037 : (Jvm.Cond.code ({ cls := "TableTower", name := "marriages", desc := "()I" } : Jvm.MethodName) prog_1_method_44_code (6 : Nat) (Option.some Jvm.ClassFile.FieldType.int)) ∈ lw_all := lw_g (lw_at lw_m4 211 rfl) rfl
theorem q1038 : (Jvm.Cond.methodLink "TableTower" (306 : Nat) ({ cls := "java/lang/Integer", name := "numberOfTrailingZeros", desc := "(I)I" } : Jvm.MethodName)) ∈ lw_all := lw_g (lw_at lw_m4 212 rfl) rfl
theorem q1042 : (Jvm.Cond.methodLink "TableTower" (303 : Nat) ({ cls := "TableTower", name := "canMarry", desc := "(II)Z" } : Jvm.MethodName)) ∈ lw_all := lw_g (lw_at lw_m4 216 rfl) rfl
theorem q1043 : (Jvm.Cond.privateMethod ({ cls := "TableTower", name := "canMarry", desc := "(II)Z" } : Jvm.MethodName)) ∈ lw_tbl := lw_at lw_m4 217 rfl
theorem q1044 : (Jvm.Cond.instanceMethod ({ cls := "TableTower", name := "canMarry", desc := "(II)Z" } : Jvm.MethodName)) ∈ lw_all := lw_g (lw_at lw_m4 218 rfl) rfl
theorem q1045 : (Jvm.Cond.code ({ cls := "TableTower", name := "canMarry", desc := "(II)Z" } : Jvm.MethodName) prog_1_method_42_code (3 : Nat) (Option.some Jvm.ClassFile.FieldType.boolean)) ∈ lw_all := lw_g (lw_at lw_m4 219 rfl) rfl
theorem q1046 : (Jvm.Cond.methodLink "TableTower" (300 : Nat) ({ cls := "TableTower", name := "carriesBelow", desc := "(I)I" } : Jvm.MethodName)) ∈ lw_all := lw_g (lw_at lw_m4 220 rfl) rfl
theorem q1047 : (Jvm.Cond.privateMethod ({ cls := "TableTower", name := "carriesBelow", desc := "(I)I" } : Jvm.MethodName)) ∈ lw_tbl := lw_at lw_m4 221 rfl
theorem q1048 : (Jvm.Cond.instanceMethod ({ cls := "TableTower", name := "carriesBelow", desc := "(I)I" } : Jvm.MethodName)) ∈ lw_all := lw_g (lw_at lw_m4 222 rfl) rfl
theorem q1049 : (Jvm.Cond.code ({ cls := "TableTower", name := "carriesBelow", desc := "(I)I" } : Jvm.MethodName) prog_1_method_41_code (2 : Nat) (Option.some Jvm.ClassFile.FieldType.int)) ∈ lw_all := lw_g (lw_at lw_m4 223 rfl) rfl
theorem q1050 : (Jvm.Cond.methodLink "TableTower" (309 : Nat) ({ cls := "java/lang/Math", name := "max", desc := "(II)I" } : Jvm.MethodName)) ∈ lw_all := lw_g (lw_at lw_m4 224 rfl) rfl
theorem q1052 : (Jvm.Cond.instanceMethod ({ cls := "TableTower", name := "fair", desc := "()I" } : Jvm.MethodName)) ∈ lw_all := lw_g (lw_at lw_m4 226 rfl) rfl
theorem q1053 : (Jvm.Cond.selects "TableTower" ({ cls := "TableTower", name := "fair", desc := "()I" } : Jvm.MethodName) ({ cls := "TableTower", name := "fair", desc := "()I" } : Jvm.MethodName)) ∈ lw_all := lw_g (lw_at lw_m4 227 rfl) rfl
theorem q1054 : (Jvm.Cond.code ({ cls := "TableTower", name := "fair", desc := "()I" } : Jvm.MethodName) prog_1_method_46_code (2 : Nat) (Option.some Jvm.ClassFile.FieldType.int)) ∈ lw_all := lw_g (lw_at lw_m4 228 rfl) rfl
theorem q1055 : (Jvm.Cond.methodLink "TableTower" (158 : Nat) ({ cls := "TableTower$State", name := "full", desc := "(LTableTower$Town;)I" } : Jvm.MethodName)) ∈ lw_all := lw_g (lw_at lw_m4 229 rfl) rfl
theorem q1060 : (Jvm.Cond.instanceMethod ({ cls := "TableTower", name := "oneWedge", desc := "()I" } : Jvm.MethodName)) ∈ lw_all := lw_g (lw_at lw_m4 234 rfl) rfl
theorem q1061 : (Jvm.Cond.selects "TableTower" ({ cls := "TableTower", name := "oneWedge", desc := "()I" } : Jvm.MethodName) ({ cls := "TableTower", name := "oneWedge", desc := "()I" } : Jvm.MethodName)) ∈ lw_all := lw_g (lw_at lw_m4 235 rfl) rfl
theorem q1062 : (Jvm.Cond.code ({ cls := "TableTower", name := "oneWedge", desc := "()I" } : Jvm.MethodName) prog_1_method_49_code (3 : Nat) (Option.some Jvm.ClassFile.FieldType.int)) ∈ lw_all := lw_g (lw_at lw_m4 236 rfl) rfl
theorem q1063 : (Jvm.Cond.methodLink "TableTower" (315 : Nat) ({ cls := "TableTower", name := "guesses", desc := "()I" } : Jvm.MethodName)) ∈ lw_all := lw_g (lw_at lw_m4 237 rfl) rfl
theorem q1064 : (Jvm.Cond.privateMethod ({ cls := "TableTower", name := "guesses", desc := "()I" } : Jvm.MethodName)) ∈ lw_tbl := lw_at lw_m4 238 rfl
theorem q1065 : (Jvm.Cond.instanceMethod ({ cls := "TableTower", name := "guesses", desc := "()I" } : Jvm.MethodName)) ∈ lw_all := lw_g (lw_at lw_m4 239 rfl) rfl
theorem q1066 : (Jvm.Cond.code ({ cls := "TableTower", name := "guesses", desc := "()I" } : Jvm.MethodName) prog_1_method_63_code (1 : Nat) (Option.some Jvm.ClassFile.FieldType.int)) ∈ lw_all := lw_g (lw_at lw_m5 0 rfl) rfl
theorem q1068 : (Jvm.Cond.instanceMethod ({ cls := "TableTower", name := "swap", desc := "()I" } : Jvm.MethodName)) ∈ lw_all := lw_g (lw_at lw_m5 2 rfl) rfl
theorem q1069 : (Jvm.Cond.selects "TableTower" ({ cls := "TableTower", name := "swap", desc := "()I" } : Jvm.MethodName) ({ cls := "TableTower", name := "swap", desc := "()I" } : Jvm.MethodName)) ∈ lw_all := lw_g (lw_at lw_m5 3 rfl) rfl
theorem q1070 : (Jvm.Cond.code ({ cls := "TableTower", name := "swap", desc := "()I" } : Jvm.MethodName) prog_1_method_53_code (6 : Nat) (Option.some Jvm.ClassFile.FieldType.int)) ∈ lw_all := lw_g (lw_at lw_m5 4 rfl) rfl
theorem q1072 : (Jvm.Cond.instanceMethod ({ cls := "TableTower", name := "crooked", desc := "()I" } : Jvm.MethodName)) ∈ lw_all := lw_g (lw_at lw_m5 6 rfl) rfl
theorem q1073 : (Jvm.Cond.selects "TableTower" ({ cls := "TableTower", name := "crooked", desc := "()I" } : Jvm.MethodName) ({ cls := "TableTower", name := "crooked", desc := "()I" } : Jvm.MethodName)) ∈ lw_all := lw_g (lw_at lw_m5 7 rfl) rfl
theorem q1074 : (Jvm.Cond.code ({ cls := "TableTower", name := "crooked", desc := "()I" } : Jvm.MethodName) prog_1_method_56_code (3 : Nat) (Option.some Jvm.ClassFile.FieldType.int)) ∈ lw_all := lw_g (lw_at lw_m5 8 rfl) rfl
theorem q1075 : (Jvm.Cond.methodLink "TableTower" (205 : Nat) ({ cls := "TableTower$State", name := "tilt", desc := "(LTableTower$Town;I)I" } : Jvm.MethodName)) ∈ lw_all := lw_g (lw_at lw_m5 9 rfl) rfl
theorem q1077 : (Jvm.Cond.instanceMethod ({ cls := "TableTower", name := "relief", desc := "()I" } : Jvm.MethodName)) ∈ lw_all := lw_g (lw_at lw_m5 11 rfl) rfl
theorem q1078 : (Jvm.Cond.selects "TableTower" ({ cls := "TableTower", name := "relief", desc := "()I" } : Jvm.MethodName) ({ cls := "TableTower", name := "relief", desc := "()I" } : Jvm.MethodName)) ∈ lw_all := lw_g (lw_at lw_m5 12 rfl) rfl
theorem q1079 : (Jvm.Cond.code ({ cls := "TableTower", name := "relief", desc := "()I" } : Jvm.MethodName) prog_1_method_58_code (5 : Nat) (Option.some Jvm.ClassFile.FieldType.int)) ∈ lw_all := lw_g (lw_at lw_m5 13 rfl) rfl
theorem q1080 : (Jvm.Cond.methodLink "TableTower" (312 : Nat) ({ cls := "TableTower", name := "takesAll", desc := "(I)V" } : Jvm.MethodName)) ∈ lw_all := lw_g (lw_at lw_m5 14 rfl) rfl
theorem q1081 : (Jvm.Cond.privateMethod ({ cls := "TableTower", name := "takesAll", desc := "(I)V" } : Jvm.MethodName)) ∈ lw_tbl := lw_at lw_m5 15 rfl
theorem q1082 : (Jvm.Cond.instanceMethod ({ cls := "TableTower", name := "takesAll", desc := "(I)V" } : Jvm.MethodName)) ∈ lw_all := lw_g (lw_at lw_m5 16 rfl) rfl
theorem q1083 : (Jvm.Cond.code ({ cls := "TableTower", name := "takesAll", desc := "(I)V" } : Jvm.MethodName) prog_1_method_47_code (3 : Nat) (Option.none : Option Jvm.ClassFile.FieldType)) ∈ lw_all := lw_g (lw_at lw_m5 17 rfl) rfl
theorem q1084 : (Jvm.Cond.methodLink "TableTower" (226 : Nat) ({ cls := "TableTower$State", name := "takes", desc := "(I)V" } : Jvm.MethodName)) ∈ lw_all := lw_g (lw_at lw_m5 18 rfl) rfl
theorem q1089 : (Jvm.Cond.instanceMethod ({ cls := "TableTower", name := "hungriest", desc := "()I" } : Jvm.MethodName)) ∈ lw_all := lw_g (lw_at lw_m5 23 rfl) rfl
theorem q1090 : (Jvm.Cond.selects "TableTower" ({ cls := "TableTower", name := "hungriest", desc := "()I" } : Jvm.MethodName) ({ cls := "TableTower", name := "hungriest", desc := "()I" } : Jvm.MethodName)) ∈ lw_all := lw_g (lw_at lw_m5 24 rfl) rfl
theorem q1091 : (Jvm.Cond.code ({ cls := "TableTower", name := "hungriest", desc := "()I" } : Jvm.MethodName) prog_1_method_59_code (5 : Nat) (Option.some Jvm.ClassFile.FieldType.int)) ∈ lw_all := lw_g (lw_at lw_m5 25 rfl) rfl
theorem q1093 : (Jvm.Cond.instanceMethod ({ cls := "TableTower", name := "see", desc := "(II)I" } : Jvm.MethodName)) ∈ lw_all := lw_g (lw_at lw_m5 27 rfl) rfl
theorem q1094 : (Jvm.Cond.selects "TableTower" ({ cls := "TableTower", name := "see", desc := "(II)I" } : Jvm.MethodName) ({ cls := "TableTower", name := "see", desc := "(II)I" } : Jvm.MethodName)) ∈ lw_all := lw_g (lw_at lw_m5 28 rfl) rfl
theorem q1095 : (Jvm.Cond.code ({ cls := "TableTower", name := "see", desc := "(II)I" } : Jvm.MethodName) prog_1_method_60_code (4 : Nat) (Option.some Jvm.ClassFile.FieldType.int)) ∈ lw_all := lw_g (lw_at lw_m5 29 rfl) rfl
theorem q1097 : (Jvm.Cond.instanceMethod ({ cls := "TableTower", name := "look", desc := "()I" } : Jvm.MethodName)) ∈ lw_all := lw_g (lw_at lw_m5 31 rfl) rfl
theorem q1098 : (Jvm.Cond.selects "TableTower" ({ cls := "TableTower", name := "look", desc := "()I" } : Jvm.MethodName) ({ cls := "TableTower", name := "look", desc := "()I" } : Jvm.MethodName)) ∈ lw_all := lw_g (lw_at lw_m5 32 rfl) rfl
theorem q1099 : (Jvm.Cond.code ({ cls := "TableTower", name := "look", desc := "()I" } : Jvm.MethodName) prog_1_method_66_code (5 : Nat) (Option.some Jvm.ClassFile.FieldType.int)) ∈ lw_all := lw_g (lw_at lw_m5 33 rfl) rfl
theorem q1100 : (Jvm.Cond.methodLink "TableTower" (331 : Nat) ({ cls := "TableTower", name := "apart", desc := "(I)I" } : Jvm.MethodName)) ∈ lw_all := lw_g (lw_at lw_m5 34 rfl) rfl
theorem q1101 : (Jvm.Cond.privateMethod ({ cls := "TableTower", name := "apart", desc := "(I)I" } : Jvm.MethodName)) ∈ lw_tbl := lw_at lw_m5 35 rfl
theorem q1102 : (Jvm.Cond.instanceMethod ({ cls := "TableTower", name := "apart", desc := "(I)I" } : Jvm.MethodName)) ∈ lw_all := lw_g (lw_at lw_m5 36 rfl) rfl
theorem q1103 : (Jvm.Cond.code ({ cls := "TableTower", name := "apart", desc := "(I)I" } : Jvm.MethodName) prog_1_method_65_code (5 : Nat) (Option.some Jvm.ClassFile.FieldType.int)) ∈ lw_all := lw_g (lw_at lw_m5 37 rfl) rfl
theorem q1104 : (Jvm.Cond.methodLink "TableTower" (327 : Nat) ({ cls := "TableTower", name := "isGuess", desc := "(I)Z" } : Jvm.MethodName)) ∈ lw_all := lw_g (lw_at lw_m5 38 rfl) rfl
theorem q1105 : (Jvm.Cond.privateMethod ({ cls := "TableTower", name := "isGuess", desc := "(I)Z" } : Jvm.MethodName)) ∈ lw_tbl := lw_at lw_m5 39 rfl
theorem q1106 : (Jvm.Cond.instanceMethod ({ cls := "TableTower", name := "isGuess", desc := "(I)Z" } : Jvm.MethodName)) ∈ lw_all := lw_g (lw_at lw_m5 40 rfl) rfl
theorem q1107 : (Jvm.Cond.code ({ cls := "TableTower", name := "isGuess", desc := "(I)Z" } : Jvm.MethodName) prog_1_method_62_code (4 : Nat) (Option.some Jvm.ClassFile.FieldType.boolean)) ∈ lw_all := lw_g (lw_at lw_m5 41 rfl) rfl
theorem q1108 : (Jvm.Cond.methodLink "TableTower" (323 : Nat) ({ cls := "TableTower", name := "isSeen", desc := "()Z" } : Jvm.MethodName)) ∈ lw_all := lw_g (lw_at lw_m5 42 rfl) rfl
theorem q1109 : (Jvm.Cond.privateMethod ({ cls := "TableTower", name := "isSeen", desc := "()Z" } : Jvm.MethodName)) ∈ lw_tbl := lw_at lw_m5 43 rfl
theorem q1110 : (Jvm.Cond.instanceMethod ({ cls := "TableTower", name := "isSeen", desc := "()Z" } : Jvm.MethodName)) ∈ lw_all := lw_g (lw_at lw_m5 44 rfl) rfl
theorem q1111 : (Jvm.Cond.code ({ cls := "TableTower", name := "isSeen", desc := "()Z" } : Jvm.MethodName) prog_1_method_61_code (2 : Nat) (Option.some Jvm.ClassFile.FieldType.boolean)) ∈ lw_all := lw_g (lw_at lw_m5 45 rfl) rfl
theorem q1113 : (Jvm.Cond.instanceMethod ({ cls := "TableTower", name := "forget", desc := "()V" } : Jvm.MethodName)) ∈ lw_all := lw_g (lw_at lw_m5 47 rfl) rfl
theorem q1114 : (Jvm.Cond.selects "TableTower" ({ cls := "TableTower", name := "forget", desc := "()V" } : Jvm.MethodName) ({ cls := "TableTower", name := "forget", desc := "()V" } : Jvm.MethodName)) ∈ lw_all := lw_g (lw_at lw_m5 48 rfl) rfl
theorem q1115 : (Jvm.Cond.code ({ cls := "TableTower", name := "forget", desc := "()V" } : Jvm.MethodName) prog_1_method_67_code (1 : Nat) (Option.none : Option Jvm.ClassFile.FieldType)) ∈ lw_all := lw_g (lw_at lw_m5 49 rfl) rfl
theorem q1117 : (Jvm.Cond.instanceMethod ({ cls := "TableTower", name := "image", desc := "()V" } : Jvm.MethodName)) ∈ lw_all := lw_g (lw_at lw_m5 51 rfl) rfl
theorem q1118 : (Jvm.Cond.selects "TableTower" ({ cls := "TableTower", name := "image", desc := "()V" } : Jvm.MethodName) ({ cls := "TableTower", name := "image", desc := "()V" } : Jvm.MethodName)) ∈ lw_all := lw_g (lw_at lw_m5 52 rfl) rfl
theorem q1119 : (Jvm.Cond.code ({ cls := "TableTower", name := "image", desc := "()V" } : Jvm.MethodName) prog_1_method_74_code (1 : Nat) (Option.none : Option Jvm.ClassFile.FieldType)) ∈ lw_all := lw_g (lw_at lw_m5 53 rfl) rfl
theorem q1120 : (Jvm.Cond.methodLink "TableTower" (350 : Nat) ({ cls := "TableTower$Book", name := "like", desc := "(LTableTower$Book;)V" } : Jvm.MethodName)) ∈ lw_all := lw_g (lw_at lw_m5 54 rfl) rfl
theorem q1126 : (Jvm.Cond.instanceMethod ({ cls := "TableTower", name := "restore", desc := "()Z" } : Jvm.MethodName)) ∈ lw_all := lw_g (lw_at lw_m5 60 rfl) rfl
theorem q1127 : (Jvm.Cond.selects "TableTower" ({ cls := "TableTower", name := "restore", desc := "()Z" } : Jvm.MethodName) ({ cls := "TableTower", name := "restore", desc := "()Z" } : Jvm.MethodName)) ∈ lw_all := lw_g (lw_at lw_m5 61 rfl) rfl
theorem q1128 : (Jvm.Cond.code ({ cls := "TableTower", name := "restore", desc := "()Z" } : Jvm.MethodName) prog_1_method_75_code (1 : Nat) (Option.some Jvm.ClassFile.FieldType.boolean)) ∈ lw_all := lw_g (lw_at lw_m5 62 rfl) rfl
theorem q1134 : (Jvm.Cond.instanceMethod ({ cls := "TableTower", name := "town", desc := "(I)I" } : Jvm.MethodName)) ∈ lw_all := lw_g (lw_at lw_m5 68 rfl) rfl
theorem q1135 : (Jvm.Cond.selects "TableTower" ({ cls := "TableTower", name := "town", desc := "(I)I" } : Jvm.MethodName) ({ cls := "TableTower", name := "town", desc := "(I)I" } : Jvm.MethodName)) ∈ lw_all := lw_g (lw_at lw_m5 69 rfl) rfl
theorem q1136 : (Jvm.Cond.codeWith ({ cls := "TableTower", name := "town", desc := "(I)I" } : Jvm.MethodName) prog_1_method_10_code (3 : Nat) (Option.some Jvm.ClassFile.FieldType.int) [((30 : Nat), (49 : Nat), (52 : Nat), (116 : Nat))]) ∈ lw_all := lw_g (lw_at lw_m5 70 rfl) rfl
theorem q1137 : (Jvm.Cond.classLink "TableTower" (116 : Nat) "TableTower$Fault") ∈ lw_all := lw_g (lw_at lw_m5 71 rfl) rfl
theorem q1138 : (Jvm.Cond.methodLink "TableTower" (105 : Nat) ({ cls := "TableTower", name := "right", desc := "(Z)V" } : Jvm.MethodName)) ∈ lw_all := lw_g (lw_at lw_m5 72 rfl) rfl
theorem q1139 : (Jvm.Cond.static ({ cls := "TableTower", name := "right", desc := "(Z)V" } : Jvm.MethodName)) ∈ lw_all := lw_g (lw_at lw_m5 73 rfl) rfl
theorem q1140 : (Jvm.Cond.code ({ cls := "TableTower", name := "right", desc := "(Z)V" } : Jvm.MethodName) prog_1_method_2_code (1 : Nat) (Option.none : Option Jvm.ClassFile.FieldType)) ∈ lw_all := lw_g (lw_at lw_m5 74 rfl) rfl
theorem q1141 : (Jvm.Cond.classLink "TableTower" (67 : Nat) "java/lang/IllegalArgumentException") ∈ lw_all := lw_g (lw_at lw_m5 75 rfl) rfl
theorem q1142 : (Jvm.Cond.methodLink "TableTower" (69 : Nat) ({ cls := "java/lang/IllegalArgumentException", name := "<init>", desc := "()V" } : Jvm.MethodName)) ∈ lw_all := lw_g (lw_at lw_m5 76 rfl) rfl
theorem q1152 : (Jvm.Cond.classLink "TableTower" (108 : Nat) "TableTower$Reader") ∈ lw_all := lw_g (lw_at lw_m5 86 rfl) rfl
theorem q1154 : (Jvm.Cond.methodLink "TableTower" (110 : Nat) ({ cls := "TableTower$Reader", name := "<init>", desc := "([BI)V" } : Jvm.MethodName)) ∈ lw_all := lw_g (lw_at lw_m5 88 rfl) rfl
theorem q1254 : (Jvm.Cond.methodLink "TableTower" (113 : Nat) ({ cls := "TableTower$Reader", name := "town", desc := "()LTableTower$Town;" } : Jvm.MethodName)) ∈ lw_all := lw_g (lw_at lw_m5 188 rfl) rfl
theorem q1294 : (Jvm.Cond.fieldLinkNest "TableTower" (124 : Nat) "TableTower$Fault" "kind" "I" "TableTower") ∈ lw_tbl := lw_at lw_m5 228 rfl
theorem q1296 : (Jvm.Cond.fieldLinkNest "TableTower" (118 : Nat) "TableTower$Fault" "place" "I" "TableTower") ∈ lw_tbl := lw_at lw_m5 230 rfl
theorem q1445 : (Jvm.Cond.fieldLink "TableTower" (170 : Nat) "TableTower$Pine" "weight" "I") ∈ lw_all := lw_g (lw_at lw_m6 139 rfl) rfl
theorem q1451 : (Jvm.Cond.fieldLink "TableTower" (180 : Nat) "TableTower$Pine" "hunger" "I") ∈ lw_all := lw_g (lw_at lw_m6 145 rfl) rfl
theorem q1499 : (Jvm.Cond.instanceMethod ({ cls := "TableTower", name := "count", desc := "(I)I" } : Jvm.MethodName)) ∈ lw_all := lw_g (lw_at lw_m6 193 rfl) rfl
theorem q1500 : (Jvm.Cond.selects "TableTower" ({ cls := "TableTower", name := "count", desc := "(I)I" } : Jvm.MethodName) ({ cls := "TableTower", name := "count", desc := "(I)I" } : Jvm.MethodName)) ∈ lw_all := lw_g (lw_at lw_m6 194 rfl) rfl
theorem q1501 : (Jvm.Cond.code ({ cls := "TableTower", name := "count", desc := "(I)I" } : Jvm.MethodName) prog_1_method_12_code (2 : Nat) (Option.some Jvm.ClassFile.FieldType.int)) ∈ lw_all := lw_g (lw_at lw_m6 195 rfl) rfl
theorem q1502 : (Jvm.Cond.methodLink "TableTower" (85 : Nat) ({ cls := "TableTower", name := "there", desc := "(Z)V" } : Jvm.MethodName)) ∈ lw_all := lw_g (lw_at lw_m6 196 rfl) rfl
theorem q1503 : (Jvm.Cond.static ({ cls := "TableTower", name := "there", desc := "(Z)V" } : Jvm.MethodName)) ∈ lw_all := lw_g (lw_at lw_m6 197 rfl) rfl
theorem q1504 : (Jvm.Cond.code ({ cls := "TableTower", name := "there", desc := "(Z)V" } : Jvm.MethodName) prog_1_method_3_code (1 : Nat) (Option.none : Option Jvm.ClassFile.FieldType)) ∈ lw_all := lw_g (lw_at lw_m6 198 rfl) rfl
theorem q1505 : (Jvm.Cond.classLink "TableTower" (70 : Nat) "java/util/NoSuchElementException") ∈ lw_all := lw_g (lw_at lw_m6 199 rfl) rfl
theorem q1514 : (Jvm.Cond.methodLink "TableTower" (72 : Nat) ({ cls := "java/util/NoSuchElementException", name := "<init>", desc := "()V" } : Jvm.MethodName)) ∈ lw_all := lw_g (lw_at lw_m6 208 rfl) rfl
theorem q1520 : (Jvm.Cond.methodLink "TableTower" (151 : Nat) ({ cls := "TableTower$State", name := "breaks", desc := "(LTableTower$Town;)I" } : Jvm.MethodName)) ∈ lw_all := lw_g (lw_at lw_m6 214 rfl) rfl
theorem q1525 : (Jvm.Cond.instanceMethod ({ cls := "TableTower", name := "table", desc := "(II)I" } : Jvm.MethodName)) ∈ lw_all := lw_g (lw_at lw_m6 219 rfl) rfl
theorem q1526 : (Jvm.Cond.selects "TableTower" ({ cls := "TableTower", name := "table", desc := "(II)I" } : Jvm.MethodName) ({ cls := "TableTower", name := "table", desc := "(II)I" } : Jvm.MethodName)) ∈ lw_all := lw_g (lw_at lw_m6 220 rfl) rfl
theorem q1527 : (Jvm.Cond.code ({ cls := "TableTower", name := "table", desc := "(II)I" } : Jvm.MethodName) prog_1_method_13_code (4 : Nat) (Option.some Jvm.ClassFile.FieldType.int)) ∈ lw_all := lw_g (lw_at lw_m6 221 rfl) rfl
theorem q1528 : (Jvm.Cond.methodLink "TableTower" (164 : Nat) ({ cls := "TableTower", name := "tableAt", desc := "(I)LTableTower$Pine;" } : Jvm.MethodName)) ∈ lw_all := lw_g (lw_at lw_m6 222 rfl) rfl
theorem q1529 : (Jvm.Cond.privateMethod ({ cls := "TableTower", name := "tableAt", desc := "(I)LTableTower$Pine;" } : Jvm.MethodName)) ∈ lw_tbl := lw_at lw_m6 223 rfl
theorem q1530 : (Jvm.Cond.instanceMethod ({ cls := "TableTower", name := "tableAt", desc := "(I)LTableTower$Pine;" } : Jvm.MethodName)) ∈ lw_all := lw_g (lw_at lw_m6 224 rfl) rfl
theorem q1531 : (Jvm.Cond.code ({ cls := "TableTower", name := "tableAt", desc := "(I)LTableTower$Pine;" } : Jvm.MethodName) prog_1_method_6_code (2 : Nat) (Option.some (Jvm.ClassFile.FieldType.object "TableTower$Pine"))) ∈ lw_all := lw_g (lw_at lw_m6 225 rfl) rfl
theorem q1532 : (Jvm.Cond.methodLink "TableTower" (168 : Nat) ({ cls := "TableTower$Pine", name := "kind", desc := "()I" } : Jvm.MethodName)) ∈ lw_all := lw_g (lw_at lw_m6 226 rfl) rfl
theorem q1533 : (Jvm.Cond.methodLink "TableTower" (173 : Nat) ({ cls := "TableTower$Pine", name := "bearing", desc := "(I)I" } : Jvm.MethodName)) ∈ lw_all := lw_g (lw_at lw_m6 227 rfl) rfl
theorem q1545 : (Jvm.Cond.instanceMethod ({ cls := "TableTower", name := "level", desc := "(II)I" } : Jvm.MethodName)) ∈ lw_all := lw_g (lw_at lw_m6 239 rfl) rfl
theorem q1546 : (Jvm.Cond.selects "TableTower" ({ cls := "TableTower", name := "level", desc := "(II)I" } : Jvm.MethodName) ({ cls := "TableTower", name := "level", desc := "(II)I" } : Jvm.MethodName)) ∈ lw_all := lw_g (lw_at lw_m7 0 rfl) rfl
theorem q1547 : (Jvm.Cond.code ({ cls := "TableTower", name := "level", desc := "(II)I" } : Jvm.MethodName) prog_1_method_14_code (3 : Nat) (Option.some Jvm.ClassFile.FieldType.int)) ∈ lw_all := lw_g (lw_at lw_m7 1 rfl) rfl
theorem q1548 : (Jvm.Cond.methodLink "TableTower" (192 : Nat) ({ cls := "TableTower", name := "levelAt", desc := "(I)V" } : Jvm.MethodName)) ∈ lw_all := lw_g (lw_at lw_m7 2 rfl) rfl
theorem q1549 : (Jvm.Cond.privateMethod ({ cls := "TableTower", name := "levelAt", desc := "(I)V" } : Jvm.MethodName)) ∈ lw_tbl := lw_at lw_m7 3 rfl
theorem q1550 : (Jvm.Cond.instanceMethod ({ cls := "TableTower", name := "levelAt", desc := "(I)V" } : Jvm.MethodName)) ∈ lw_all := lw_g (lw_at lw_m7 4 rfl) rfl
theorem q1551 : (Jvm.Cond.code ({ cls := "TableTower", name := "levelAt", desc := "(I)V" } : Jvm.MethodName) prog_1_method_7_code (2 : Nat) (Option.none : Option Jvm.ClassFile.FieldType)) ∈ lw_all := lw_g (lw_at lw_m7 5 rfl) rfl
theorem q1552 : (Jvm.Cond.methodLink "TableTower" (208 : Nat) ({ cls := "TableTower$State", name := "holds", desc := "(LTableTower$Town;I)Z" } : Jvm.MethodName)) ∈ lw_all := lw_g (lw_at lw_m7 6 rfl) rfl
theorem q1557 : (Jvm.Cond.instanceMethod ({ cls := "TableTower", name := "put", desc := "(II)I" } : Jvm.MethodName)) ∈ lw_all := lw_g (lw_at lw_m7 11 rfl) rfl
theorem q1558 : (Jvm.Cond.selects "TableTower" ({ cls := "TableTower", name := "put", desc := "(II)I" } : Jvm.MethodName) ({ cls := "TableTower", name := "put", desc := "(II)I" } : Jvm.MethodName)) ∈ lw_all := lw_g (lw_at lw_m7 12 rfl) rfl
theorem q1559 : (Jvm.Cond.code ({ cls := "TableTower", name := "put", desc := "(II)I" } : Jvm.MethodName) prog_1_method_18_code (3 : Nat) (Option.some Jvm.ClassFile.FieldType.int)) ∈ lw_all := lw_g (lw_at lw_m7 13 rfl) rfl
theorem q1560 : (Jvm.Cond.methodLink "TableTower" (222 : Nat) ({ cls := "TableTower$State", name := "puts", desc := "(II)V" } : Jvm.MethodName)) ∈ lw_all := lw_g (lw_at lw_m7 14 rfl) rfl
theorem q1568 : (Jvm.Cond.instanceMethod ({ cls := "TableTower", name := "take", desc := "(I)I" } : Jvm.MethodName)) ∈ lw_all := lw_g (lw_at lw_m7 22 rfl) rfl
theorem q1569 : (Jvm.Cond.selects "TableTower" ({ cls := "TableTower", name := "take", desc := "(I)I" } : Jvm.MethodName) ({ cls := "TableTower", name := "take", desc := "(I)I" } : Jvm.MethodName)) ∈ lw_all := lw_g (lw_at lw_m7 23 rfl) rfl
theorem q1570 : (Jvm.Cond.code ({ cls := "TableTower", name := "take", desc := "(I)I" } : Jvm.MethodName) prog_1_method_19_code (3 : Nat) (Option.some Jvm.ClassFile.FieldType.int)) ∈ lw_all := lw_g (lw_at lw_m7 24 rfl) rfl
theorem q1575 : (Jvm.Cond.instanceMethod ({ cls := "TableTower", name := "change", desc := "(II)Z" } : Jvm.MethodName)) ∈ lw_all := lw_g (lw_at lw_m7 29 rfl) rfl
theorem q1576 : (Jvm.Cond.selects "TableTower" ({ cls := "TableTower", name := "change", desc := "(II)Z" } : Jvm.MethodName) ({ cls := "TableTower", name := "change", desc := "(II)Z" } : Jvm.MethodName)) ∈ lw_all := lw_g (lw_at lw_m7 30 rfl) rfl
theorem q1577 : (Jvm.Cond.code ({ cls := "TableTower", name := "change", desc := "(II)Z" } : Jvm.MethodName) prog_1_method_20_code (4 : Nat) (Option.some Jvm.ClassFile.FieldType.boolean)) ∈ lw_all := lw_g (lw_at lw_m7 31 rfl) rfl
theorem q1582 : (Jvm.Cond.instanceMethod ({ cls := "TableTower", name := "wedge", desc := "(II)I" } : Jvm.MethodName)) ∈ lw_all := lw_g (lw_at lw_m7 36 rfl) rfl
theorem q1583 : (Jvm.Cond.selects "TableTower" ({ cls := "TableTower", name := "wedge", desc := "(II)I" } : Jvm.MethodName) ({ cls := "TableTower", name := "wedge", desc := "(II)I" } : Jvm.MethodName)) ∈ lw_all := lw_g (lw_at lw_m7 37 rfl) rfl
theorem q1584 : (Jvm.Cond.code ({ cls := "TableTower", name := "wedge", desc := "(II)I" } : Jvm.MethodName) prog_1_method_22_code (3 : Nat) (Option.some Jvm.ClassFile.FieldType.int)) ∈ lw_all := lw_g (lw_at lw_m7 38 rfl) rfl
theorem q1585 : (Jvm.Cond.methodLink "TableTower" (229 : Nat) ({ cls := "TableTower", name := "becomes", desc := "([III)I" } : Jvm.MethodName)) ∈ lw_all := lw_g (lw_at lw_m7 39 rfl) rfl
theorem q1586 : (Jvm.Cond.privateMethod ({ cls := "TableTower", name := "becomes", desc := "([III)I" } : Jvm.MethodName)) ∈ lw_tbl := lw_at lw_m7 40 rfl
theorem q1587 : (Jvm.Cond.instanceMethod ({ cls := "TableTower", name := "becomes", desc := "([III)I" } : Jvm.MethodName)) ∈ lw_all := lw_g (lw_at lw_m7 41 rfl) rfl
theorem q1588 : (Jvm.Cond.code ({ cls := "TableTower", name := "becomes", desc := "([III)I" } : Jvm.MethodName) prog_1_method_21_code (5 : Nat) (Option.some Jvm.ClassFile.FieldType.int)) ∈ lw_all := lw_g (lw_at lw_m7 42 rfl) rfl
theorem q1593 : (Jvm.Cond.instanceMethod ({ cls := "TableTower", name := "saw", desc := "(II)I" } : Jvm.MethodName)) ∈ lw_all := lw_g (lw_at lw_m7 47 rfl) rfl
theorem q1594 : (Jvm.Cond.selects "TableTower" ({ cls := "TableTower", name := "saw", desc := "(II)I" } : Jvm.MethodName) ({ cls := "TableTower", name := "saw", desc := "(II)I" } : Jvm.MethodName)) ∈ lw_all := lw_g (lw_at lw_m7 48 rfl) rfl
theorem q1595 : (Jvm.Cond.code ({ cls := "TableTower", name := "saw", desc := "(II)I" } : Jvm.MethodName) prog_1_method_23_code (3 : Nat) (Option.some Jvm.ClassFile.FieldType.int)) ∈ lw_all := lw_g (lw_at lw_m7 49 rfl) rfl
theorem q1600 : (Jvm.Cond.instanceMethod ({ cls := "TableTower", name := "without", desc := "(I)Z" } : Jvm.MethodName)) ∈ lw_all := lw_g (lw_at lw_m7 54 rfl) rfl
theorem q1601 : (Jvm.Cond.selects "TableTower" ({ cls := "TableTower", name := "without", desc := "(I)Z" } : Jvm.MethodName) ({ cls := "TableTower", name := "without", desc := "(I)Z" } : Jvm.MethodName)) ∈ lw_all := lw_g (lw_at lw_m7 55 rfl) rfl
theorem q1602 : (Jvm.Cond.code ({ cls := "TableTower", name := "without", desc := "(I)Z" } : Jvm.MethodName) prog_1_method_28_code (3 : Nat) (Option.some Jvm.ClassFile.FieldType.boolean)) ∈ lw_all := lw_g (lw_at lw_m7 56 rfl) rfl
theorem q1607 : (Jvm.Cond.instanceMethod ({ cls := "TableTower", name := "most", desc := "(I)I" } : Jvm.MethodName)) ∈ lw_all := lw_g (lw_at lw_m7 61 rfl) rfl
theorem q1608 : (Jvm.Cond.selects "TableTower" ({ cls := "TableTower", name := "most", desc := "(I)I" } : Jvm.MethodName) ({ cls := "TableTower", name := "most", desc := "(I)I" } : Jvm.MethodName)) ∈ lw_all := lw_g (lw_at lw_m7 62 rfl) rfl
theorem q1609 : (Jvm.Cond.code ({ cls := "TableTower", name := "most", desc := "(I)I" } : Jvm.MethodName) prog_1_method_34_code (3 : Nat) (Option.some Jvm.ClassFile.FieldType.int)) ∈ lw_all := lw_g (lw_at lw_m7 63 rfl) rfl
theorem q1610 : (Jvm.Cond.methodLink "TableTower" (276 : Nat) ({ cls := "TableTower", name := "mostOf", desc := "()I" } : Jvm.MethodName)) ∈ lw_all := lw_g (lw_at lw_m7 64 rfl) rfl
theorem q1611 : (Jvm.Cond.privateMethod ({ cls := "TableTower", name := "mostOf", desc := "()I" } : Jvm.MethodName)) ∈ lw_tbl := lw_at lw_m7 65 rfl
theorem q1612 : (Jvm.Cond.instanceMethod ({ cls := "TableTower", name := "mostOf", desc := "()I" } : Jvm.MethodName)) ∈ lw_all := lw_g (lw_at lw_m7 66 rfl) rfl
theorem q1613 : (Jvm.Cond.code ({ cls := "TableTower", name := "mostOf", desc := "()I" } : Jvm.MethodName) prog_1_method_33_code (3 : Nat) (Option.some Jvm.ClassFile.FieldType.int)) ∈ lw_all := lw_g (lw_at lw_m7 67 rfl) rfl
theorem q1618 : (Jvm.Cond.instanceMethod ({ cls := "TableTower", name := "row", desc := "(I)I" } : Jvm.MethodName)) ∈ lw_all := lw_g (lw_at lw_m7 72 rfl) rfl
theorem q1619 : (Jvm.Cond.selects "TableTower" ({ cls := "TableTower", name := "row", desc := "(I)I" } : Jvm.MethodName) ({ cls := "TableTower", name := "row", desc := "(I)I" } : Jvm.MethodName)) ∈ lw_all := lw_g (lw_at lw_m7 73 rfl) rfl
theorem q1620 : (Jvm.Cond.code ({ cls := "TableTower", name := "row", desc := "(I)I" } : Jvm.MethodName) prog_1_method_36_code (3 : Nat) (Option.some Jvm.ClassFile.FieldType.int)) ∈ lw_all := lw_g (lw_at lw_m7 74 rfl) rfl
theorem q1621 : (Jvm.Cond.methodLink "TableTower" (281 : Nat) ({ cls := "TableTower", name := "isRow", desc := "(II)Z" } : Jvm.MethodName)) ∈ lw_all := lw_g (lw_at lw_m7 75 rfl) rfl
theorem q1622 : (Jvm.Cond.privateMethod ({ cls := "TableTower", name := "isRow", desc := "(II)Z" } : Jvm.MethodName)) ∈ lw_tbl := lw_at lw_m7 76 rfl
theorem q1623 : (Jvm.Cond.instanceMethod ({ cls := "TableTower", name := "isRow", desc := "(II)Z" } : Jvm.MethodName)) ∈ lw_all := lw_g (lw_at lw_m7 77 rfl) rfl
theorem q1624 : (Jvm.Cond.code ({ cls := "TableTower", name := "isRow", desc := "(II)Z" } : Jvm.MethodName) prog_1_method_35_code (4 : Nat) (Option.some Jvm.ClassFile.FieldType.boolean)) ∈ lw_all := lw_g (lw_at lw_m7 78 rfl) rfl
theorem q1629 : (Jvm.Cond.instanceMethod ({ cls := "TableTower", name := "marry", desc := "(II)Z" } : Jvm.MethodName)) ∈ lw_all := lw_g (lw_at lw_m7 83 rfl) rfl
theorem q1630 : (Jvm.Cond.selects "TableTower" ({ cls := "TableTower", name := "marry", desc := "(II)Z" } : Jvm.MethodName) ({ cls := "TableTower", name := "marry", desc := "(II)Z" } : Jvm.MethodName)) ∈ lw_all := lw_g (lw_at lw_m7 84 rfl) rfl
theorem q1631 : (Jvm.Cond.code ({ cls := "TableTower", name := "marry", desc := "(II)Z" } : Jvm.MethodName) prog_1_method_43_code (3 : Nat) (Option.some Jvm.ClassFile.FieldType.boolean)) ∈ lw_all := lw_g (lw_at lw_m7 85 rfl) rfl
theorem q1636 : (Jvm.Cond.instanceMethod ({ cls := "TableTower", name := "nod", desc := "(II)I" } : Jvm.MethodName)) ∈ lw_all := lw_g (lw_at lw_m7 90 rfl) rfl
theorem q1637 : (Jvm.Cond.selects "TableTower" ({ cls := "TableTower", name := "nod", desc := "(II)I" } : Jvm.MethodName) ({ cls := "TableTower", name := "nod", desc := "(II)I" } : Jvm.MethodName)) ∈ lw_all := lw_g (lw_at lw_m7 91 rfl) rfl
theorem q1638 : (Jvm.Cond.code ({ cls := "TableTower", name := "nod", desc := "(II)I" } : Jvm.MethodName) prog_1_method_45_code (3 : Nat) (Option.some Jvm.ClassFile.FieldType.int)) ∈ lw_all := lw_g (lw_at lw_m7 92 rfl) rfl
theorem q1643 : (Jvm.Cond.instanceMethod ({ cls := "TableTower", name := "out", desc := "(I)I" } : Jvm.MethodName)) ∈ lw_all := lw_g (lw_at lw_m7 97 rfl) rfl
theorem q1644 : (Jvm.Cond.selects "TableTower" ({ cls := "TableTower", name := "out", desc := "(I)I" } : Jvm.MethodName) ({ cls := "TableTower", name := "out", desc := "(I)I" } : Jvm.MethodName)) ∈ lw_all := lw_g (lw_at lw_m7 98 rfl) rfl
theorem q1645 : (Jvm.Cond.code ({ cls := "TableTower", name := "out", desc := "(I)I" } : Jvm.MethodName) prog_1_method_48_code (5 : Nat) (Option.some Jvm.ClassFile.FieldType.int)) ∈ lw_all := lw_g (lw_at lw_m7 99 rfl) rfl
theorem q1650 : (Jvm.Cond.instanceMethod ({ cls := "TableTower", name := "lifted", desc := "(II)J" } : Jvm.MethodName)) ∈ lw_all := lw_g (lw_at lw_m7 104 rfl) rfl
theorem q1651 : (Jvm.Cond.selects "TableTower" ({ cls := "TableTower", name := "lifted", desc := "(II)J" } : Jvm.MethodName) ({ cls := "TableTower", name := "lifted", desc := "(II)J" } : Jvm.MethodName)) ∈ lw_all := lw_g (lw_at lw_m7 105 rfl) rfl
theorem q1652 : (Jvm.Cond.code ({ cls := "TableTower", name := "lifted", desc := "(II)J" } : Jvm.MethodName) prog_1_method_51_code (3 : Nat) (Option.some Jvm.ClassFile.FieldType.long)) ∈ lw_all := lw_g (lw_at lw_m7 106 rfl) rfl
theorem q1657 : (Jvm.Cond.instanceMethod ({ cls := "TableTower", name := "slack", desc := "(I)I" } : Jvm.MethodName)) ∈ lw_all := lw_g (lw_at lw_m7 111 rfl) rfl
theorem q1658 : (Jvm.Cond.selects "TableTower" ({ cls := "TableTower", name := "slack", desc := "(I)I" } : Jvm.MethodName) ({ cls := "TableTower", name := "slack", desc := "(I)I" } : Jvm.MethodName)) ∈ lw_all := lw_g (lw_at lw_m7 112 rfl) rfl
theorem q1659 : (Jvm.Cond.code ({ cls := "TableTower", name := "slack", desc := "(I)I" } : Jvm.MethodName) prog_1_method_54_code (2 : Nat) (Option.some Jvm.ClassFile.FieldType.int)) ∈ lw_all := lw_g (lw_at lw_m7 113 rfl) rfl
theorem q1664 : (Jvm.Cond.instanceMethod ({ cls := "TableTower", name := "broken", desc := "(I)I" } : Jvm.MethodName)) ∈ lw_all := lw_g (lw_at lw_m7 118 rfl) rfl
theorem q1665 : (Jvm.Cond.selects "TableTower" ({ cls := "TableTower", name := "broken", desc := "(I)I" } : Jvm.MethodName) ({ cls := "TableTower", name := "broken", desc := "(I)I" } : Jvm.MethodName)) ∈ lw_all := lw_g (lw_at lw_m7 119 rfl) rfl
theorem q1666 : (Jvm.Cond.code ({ cls := "TableTower", name := "broken", desc := "(I)I" } : Jvm.MethodName) prog_1_method_55_code (2 : Nat) (Option.some Jvm.ClassFile.FieldType.int)) ∈ lw_all := lw_g (lw_at lw_m7 120 rfl) rfl
theorem q1671 : (Jvm.Cond.instanceMethod ({ cls := "TableTower", name := "top", desc := "(I)I" } : Jvm.MethodName)) ∈ lw_all := lw_g (lw_at lw_m7 125 rfl) rfl
theorem q1672 : (Jvm.Cond.selects "TableTower" ({ cls := "TableTower", name := "top", desc := "(I)I" } : Jvm.MethodName) ({ cls := "TableTower", name := "top", desc := "(I)I" } : Jvm.MethodName)) ∈ lw_all := lw_g (lw_at lw_m7 126 rfl) rfl
theorem q1673 : (Jvm.Cond.code ({ cls := "TableTower", name := "top", desc := "(I)I" } : Jvm.MethodName) prog_1_method_57_code (2 : Nat) (Option.some Jvm.ClassFile.FieldType.int)) ∈ lw_all := lw_g (lw_at lw_m7 127 rfl) rfl
theorem q1678 : (Jvm.Cond.instanceMethod ({ cls := "TableTower", name := "which", desc := "(I)I" } : Jvm.MethodName)) ∈ lw_all := lw_g (lw_at lw_m7 132 rfl) rfl
theorem q1679 : (Jvm.Cond.selects "TableTower" ({ cls := "TableTower", name := "which", desc := "(I)I" } : Jvm.MethodName) ({ cls := "TableTower", name := "which", desc := "(I)I" } : Jvm.MethodName)) ∈ lw_all := lw_g (lw_at lw_m7 133 rfl) rfl
theorem q1680 : (Jvm.Cond.code ({ cls := "TableTower", name := "which", desc := "(I)I" } : Jvm.MethodName) prog_1_method_64_code (5 : Nat) (Option.some Jvm.ClassFile.FieldType.int)) ∈ lw_all := lw_g (lw_at lw_m7 134 rfl) rfl
theorem q1685 : (Jvm.Cond.instanceMethod ({ cls := "TableTower", name := "game", desc := "(I)I" } : Jvm.MethodName)) ∈ lw_all := lw_g (lw_at lw_m7 139 rfl) rfl
theorem q1686 : (Jvm.Cond.selects "TableTower" ({ cls := "TableTower", name := "game", desc := "(I)I" } : Jvm.MethodName) ({ cls := "TableTower", name := "game", desc := "(I)I" } : Jvm.MethodName)) ∈ lw_all := lw_g (lw_at lw_m7 140 rfl) rfl
theorem q1687 : (Jvm.Cond.code ({ cls := "TableTower", name := "game", desc := "(I)I" } : Jvm.MethodName) prog_1_method_70_code (9 : Nat) (Option.some Jvm.ClassFile.FieldType.int)) ∈ lw_all := lw_g (lw_at lw_m7 141 rfl) rfl
theorem q1688 : (Jvm.Cond.methodLink "TableTower" (334 : Nat) ({ cls := "TableTower", name := "standsBy", desc := "(II)Z" } : Jvm.MethodName)) ∈ lw_all := lw_g (lw_at lw_m7 142 rfl) rfl
theorem q1689 : (Jvm.Cond.privateMethod ({ cls := "TableTower", name := "standsBy", desc := "(II)Z" } : Jvm.MethodName)) ∈ lw_tbl := lw_at lw_m7 143 rfl
theorem q1690 : (Jvm.Cond.instanceMethod ({ cls := "TableTower", name := "standsBy", desc := "(II)Z" } : Jvm.MethodName)) ∈ lw_all := lw_g (lw_at lw_m7 144 rfl) rfl
theorem q1691 : (Jvm.Cond.code ({ cls := "TableTower", name := "standsBy", desc := "(II)Z" } : Jvm.MethodName) prog_1_method_68_code (3 : Nat) (Option.some Jvm.ClassFile.FieldType.boolean)) ∈ lw_all := lw_g (lw_at lw_m7 145 rfl) rfl
theorem q1692 : (Jvm.Cond.methodLink "TableTower" (337 : Nat) ({ cls := "TableTower", name := "gains", desc := "(IZ)I" } : Jvm.MethodName)) ∈ lw_all := lw_g (lw_at lw_m7 146 rfl) rfl
theorem q1693 : (Jvm.Cond.privateMethod ({ cls := "TableTower", name := "gains", desc := "(IZ)I" } : Jvm.MethodName)) ∈ lw_tbl := lw_at lw_m7 147 rfl
theorem q1694 : (Jvm.Cond.instanceMethod ({ cls := "TableTower", name := "gains", desc := "(IZ)I" } : Jvm.MethodName)) ∈ lw_all := lw_g (lw_at lw_m7 148 rfl) rfl
theorem q1695 : (Jvm.Cond.code ({ cls := "TableTower", name := "gains", desc := "(IZ)I" } : Jvm.MethodName) prog_1_method_69_code (3 : Nat) (Option.some Jvm.ClassFile.FieldType.int)) ∈ lw_all := lw_g (lw_at lw_m7 149 rfl) rfl
theorem q1700 : (Jvm.Cond.instanceMethod ({ cls := "TableTower", name := "decades", desc := "(III)I" } : Jvm.MethodName)) ∈ lw_all := lw_g (lw_at lw_m7 154 rfl) rfl
theorem q1701 : (Jvm.Cond.selects "TableTower" ({ cls := "TableTower", name := "decades", desc := "(III)I" } : Jvm.MethodName) ({ cls := "TableTower", name := "decades", desc := "(III)I" } : Jvm.MethodName)) ∈ lw_all := lw_g (lw_at lw_m7 155 rfl) rfl
theorem q1702 : (Jvm.Cond.code ({ cls := "TableTower", name := "decades", desc := "(III)I" } : Jvm.MethodName) prog_1_method_73_code (7 : Nat) (Option.some Jvm.ClassFile.FieldType.int)) ∈ lw_all := lw_g (lw_at lw_m7 156 rfl) rfl
theorem q1703 : (Jvm.Cond.methodLink "TableTower" (347 : Nat) ({ cls := "TableTower", name := "happens", desc := "()V" } : Jvm.MethodName)) ∈ lw_all := lw_g (lw_at lw_m7 157 rfl) rfl
theorem q1704 : (Jvm.Cond.privateMethod ({ cls := "TableTower", name := "happens", desc := "()V" } : Jvm.MethodName)) ∈ lw_tbl := lw_at lw_m7 158 rfl
theorem q1705 : (Jvm.Cond.instanceMethod ({ cls := "TableTower", name := "happens", desc := "()V" } : Jvm.MethodName)) ∈ lw_all := lw_g (lw_at lw_m7 159 rfl) rfl
theorem q1706 : (Jvm.Cond.code ({ cls := "TableTower", name := "happens", desc := "()V" } : Jvm.MethodName) prog_1_method_72_code (3 : Nat) (Option.none : Option Jvm.ClassFile.FieldType)) ∈ lw_all := lw_g (lw_at lw_m7 160 rfl) rfl
theorem q1707 : (Jvm.Cond.methodLink "TableTower" (344 : Nat) ({ cls := "TableTower", name := "draw", desc := "(I)I" } : Jvm.MethodName)) ∈ lw_all := lw_g (lw_at lw_m7 161 rfl) rfl
theorem q1708 : (Jvm.Cond.privateMethod ({ cls := "TableTower", name := "draw", desc := "(I)I" } : Jvm.MethodName)) ∈ lw_tbl := lw_at lw_m7 162 rfl
theorem q1709 : (Jvm.Cond.instanceMethod ({ cls := "TableTower", name := "draw", desc := "(I)I" } : Jvm.MethodName)) ∈ lw_all := lw_g (lw_at lw_m7 163 rfl) rfl
theorem q1710 : (Jvm.Cond.code ({ cls := "TableTower", name := "draw", desc := "(I)I" } : Jvm.MethodName) prog_1_method_71_code (2 : Nat) (Option.some Jvm.ClassFile.FieldType.int)) ∈ lw_all := lw_g (lw_at lw_m7 164 rfl) rfl
theorem q1711 : (Jvm.Cond.constant "TableTower" (343 : Nat) (1103515245 : Int32)) ∈ lw_all := lw_g (lw_at lw_m7 165 rfl) rfl
theorem q2394 : (Jvm.Cond.castable "TableTower" "java/lang/Object") ∈ lw_tbl := lw_at lw_m10 128 rfl
theorem in_X1 : ∀ w ∈ wsX10, w ∈ lw_all := lw_in wsX10 [717, 719, 721, 723, 725, 727, 729, 731, 733, 735, 737, 739, 741, 743, 745] (by decide +kernel) (by decide +kernel)
