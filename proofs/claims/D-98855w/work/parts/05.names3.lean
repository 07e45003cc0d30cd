/-! TableTowerModel -/
set_option maxRecDepth 100000
def RX7 : String := "TableTowerModel"
def TX7 : u_T := fun k => match k with
  | 0 => ("TableTowerModel", "kinds", "[Ljava/lang/String;", true)
  | 1 => ("TableTowerModel", "values", "[Ljava/lang/String;", true)
  | 2 => ("TableTowerModel", "wormOf", "[I", true)
  | 3 => ("TableTowerModel", "code", "I", false)
  | 4 => ("TableTowerModel", "told", "[I", true)
  | 5 => ("TableTowerModel", "kind", "[I", true)
  | 6 => ("TableTowerModel", "weight", "[I", true)
  | 7 => ("TableTowerModel", "bears", "[I", true)
  | 8 => ("TableTowerModel", "leanTold", "[I", true)
  | 9 => ("TableTowerModel", "hunger", "[I", true)
  | 10 => ("TableTowerModel", "signs", "[I", true)
  | 11 => ("TableTowerModel", "status", "[I", true)
  | 12 => ("TableTowerModel", "tape", "[I", true)
  | 13 => ("TableTowerModel", "taped", "I", false)
  | 14 => ("TableTowerModel", "at", "I", false)
  | 15 => ("TableTowerModel", "size", "I", false)
  | 16 => ("TableTowerModel", "token", "I", false)
  | 17 => ("TableTowerModel", "number", "I", false)
  | 18 => ("TableTowerModel", "begins", "I", false)
  | 19 => ("TableTowerModel", "stops", "I", false)
  | 20 => ("TableTowerModel", "bad", "I", false)
  | 21 => ("TableTowerModel", "badPlace", "I", false)
  | 22 => ("TableTowerModel", "faultPlace", "I", false)
  | 23 => ("TableTowerModel", "tower", "[I", true)
  | 24 => ("TableTowerModel", "meals", "[I", true)
  | 25 => ("TableTowerModel", "wedge", "[I", true)
  | 26 => ("TableTowerModel", "lean", "[I", true)
  | 27 => ("TableTowerModel", "past", "[I", true)
  | 28 => ("TableTowerModel", "height", "I", false)
  | 29 => ("TableTowerModel", "gone", "I", false)
  | 30 => ("TableTowerModel", "crumbs", "I", false)
  | 31 => ("TableTowerModel", "acts", "I", false)
  | 32 => ("TableTowerModel", "seen", "I", false)
  | 33 => ("TableTowerModel", "asked", "[I", true)
  | 34 => ("TableTowerModel", "stack", "[I", true)
  | 35 => ("TableTowerModel", "rowThen", "[I", true)
  | 36 => ("TableTowerModel", "weights", "[I", true)
  | 37 => ("TableTowerModel", "tilts", "[I", true)
  | 38 => ("TableTowerModel", "ways", "[J", true)
  | 39 => ("TableTowerModel", "lifted", "I", false)
  | 40 => ("TableTowerModel", "sea", "I", false)
  | 41 => ("TableTowerModel", "few", "[I", true)
  | 42 => ("TableTowerModel", "fewer", "[I", true)
  | 43 => ("TableTowerModel", "seenLevel", "[I", true)
  | 44 => ("TableTowerModel", "seenTilt", "[I", true)
  | 45 => ("TableTowerModel", "fitTable", "[I", true)
  | 46 => ("TableTowerModel", "fitLean", "[I", true)
  | 47 => ("TableTowerModel", "fitMany", "I", false)
  | 48 => ("TableTowerModel", "tiltOf", "[I", true)
  | 49 => ("TableTowerModel", "seedNow", "I", false)
  | 50 => ("TableTowerModel", "hasImage", "Z", false)
  | 51 => ("TableTowerModel", "actsThen", "I", false)
  | 52 => ("TableTowerModel", "seenThen", "I", false)
  | 53 => ("TableTowerModel", "imageRow", "[I", true)
  | 54 => ("TableTowerModel", "pastThen", "[I", true)
  | 55 => ("TableTowerModel", "seenLevelThen", "[I", true)
  | 56 => ("TableTowerModel", "seenTiltThen", "[I", true)
  | _ => ("TableTowerModel", "statusThen", "[I", true)
def tyX7 : Nat → FieldType := fun k => match k with
  | 0 => .array (.object "java/lang/String")
  | 1 => .array (.object "java/lang/String")
  | 2 => .array .int
  | 3 => .int
  | 4 => .array .int
  | 5 => .array .int
  | 6 => .array .int
  | 7 => .array .int
  | 8 => .array .int
  | 9 => .array .int
  | 10 => .array .int
  | 11 => .array .int
  | 12 => .array .int
  | 13 => .int
  | 14 => .int
  | 15 => .int
  | 16 => .int
  | 17 => .int
  | 18 => .int
  | 19 => .int
  | 20 => .int
  | 21 => .int
  | 22 => .int
  | 23 => .array .int
  | 24 => .array .int
  | 25 => .array .int
  | 26 => .array .int
  | 27 => .array .int
  | 28 => .int
  | 29 => .int
  | 30 => .int
  | 31 => .int
  | 32 => .int
  | 33 => .array .int
  | 34 => .array .int
  | 35 => .array .int
  | 36 => .array .int
  | 37 => .array .int
  | 38 => .array .long
  | 39 => .int
  | 40 => .int
  | 41 => .array .int
  | 42 => .array .int
  | 43 => .array .int
  | 44 => .array .int
  | 45 => .array .int
  | 46 => .array .int
  | 47 => .int
  | 48 => .array .int
  | 49 => .int
  | 50 => .boolean
  | 51 => .int
  | 52 => .int
  | 53 => .array .int
  | 54 => .array .int
  | 55 => .array .int
  | 56 => .array .int
  | _ => .array .int
abbrev wsX70 : List Cond := u_ws RX7 TX7 58
set_option maxRecDepth 100000 in
theorem nmX7 : ∀ a, a < 58 → ∀ b, b < 58 → a ≠ b → (TX7 a).2.1 ≠ (TX7 b).2.1 := by decide +kernel
set_option maxRecDepth 100000 in
theorem tyX7_ok : ∀ k, k < 58 → parseFieldDescriptor (TX7 k).2.2.1 = some (tyX7 k) := by decide +kernel
abbrev cX7_init : ByteArray := prog_20_method_1_code
def yX7_init : MethodName := ⟨RX7, "<init>", "()V"⟩
def dkwX7_init_17 : List UInt8 := [188, 10, 181, 0, 140, 177]
abbrev dktX7_init_17 : List UInt8 := dkwX7_init_17 ++ []
def dkwX7_init_16 : List UInt8 := [188, 10, 181, 0, 131, 42, 16, 8, 188, 10, 181, 0, 134, 42, 16, 8, 188, 10, 181, 0, 137, 42, 6]
abbrev dktX7_init_16 : List UInt8 := dkwX7_init_16 ++ dktX7_init_17
def dkwX7_init_15 : List UInt8 := [181, 0, 122, 42, 17, 0, 200, 188, 10, 181, 0, 125, 42, 16, 43, 188, 10, 181, 0, 128, 42, 17, 6, 184]
abbrev dktX7_init_15 : List UInt8 := dkwX7_init_15 ++ dktX7_init_16
def dkwX7_init_14 : List UInt8 := [16, 8, 188, 10, 181, 0, 116, 42, 17, 0, 200, 188, 10, 181, 0, 119, 42, 17, 0, 200, 188, 10]
abbrev dktX7_init_14 : List UInt8 := dkwX7_init_14 ++ dktX7_init_15
def dkwX7_init_13 : List UInt8 := [16, 81, 188, 10, 181, 0, 107, 42, 16, 81, 188, 10, 181, 0, 110, 42, 16, 8, 188, 10, 181, 0, 113, 42]
abbrev dktX7_init_13 : List UInt8 := dkwX7_init_13 ++ dktX7_init_14
def dkwX7_init_12 : List UInt8 := [188, 10, 181, 0, 97, 42, 17, 4, 0, 188, 10, 181, 0, 100, 42, 17, 4, 0, 188, 11, 181, 0, 103, 42]
abbrev dktX7_init_12 : List UInt8 := dkwX7_init_12 ++ dktX7_init_13
def dkwX7_init_11 : List UInt8 := [181, 0, 88, 42, 16, 64, 188, 10, 181, 0, 91, 42, 16, 43, 188, 10, 181, 0, 94, 42, 17, 4, 0]
abbrev dktX7_init_11 : List UInt8 := dkwX7_init_11 ++ dktX7_init_12
def dkwX7_init_10 : List UInt8 := [181, 0, 79, 42, 17, 6, 184, 188, 10, 181, 0, 82, 42, 2, 181, 0, 85, 42, 16, 6, 188, 10]
abbrev dktX7_init_10 : List UInt8 := dkwX7_init_10 ++ dktX7_init_11
def dkwX7_init_9 : List UInt8 := [181, 0, 70, 42, 16, 10, 188, 10, 181, 0, 73, 42, 16, 10, 188, 10, 181, 0, 76, 42, 16, 10, 188, 10]
abbrev dktX7_init_9 : List UInt8 := dkwX7_init_9 ++ dktX7_init_10
def dkwX7_init_8 : List UInt8 := [188, 10, 181, 0, 60, 42, 17, 2, 88, 188, 10, 181, 0, 63, 42, 2, 181, 0, 66, 42, 16, 10, 188, 10]
abbrev dktX7_init_8 : List UInt8 := dkwX7_init_8 ++ dktX7_init_9
def dkwX7_init_7 : List UInt8 := [188, 10, 181, 0, 52, 42, 16, 20, 188, 10, 181, 0, 55, 42, 17, 4, 176, 188, 10, 181, 0, 57, 42, 6]
abbrev dktX7_init_7 : List UInt8 := dkwX7_init_7 ++ dktX7_init_8
def dkwX7_init_6 : List UInt8 := [188, 10, 181, 0, 45, 42, 16, 20, 188, 10, 181, 0, 47, 42, 16, 20, 188, 10, 181, 0, 49, 42, 16, 20]
abbrev dktX7_init_6 : List UInt8 := dkwX7_init_6 ++ dktX7_init_7
def dkwX7_init_5 : List UInt8 := [3, 79, 89, 8, 16, 9, 79, 89, 16, 6, 16, 100, 79, 89, 16, 7, 3, 79, 181, 0, 42, 42, 16, 20]
abbrev dktX7_init_5 : List UInt8 := dkwX7_init_5 ++ dktX7_init_6
def dkwX7_init_4 : List UInt8 := [16, 8, 188, 10, 89, 3, 3, 79, 89, 4, 16, 9, 79, 89, 5, 16, 100, 79, 89, 6, 3, 79, 89, 7]
abbrev dktX7_init_4 : List UInt8 := dkwX7_init_4 ++ dktX7_init_5
def dkwX7_init_3 : List UInt8 := [7, 188, 10, 89, 3, 6, 79, 89, 4, 4, 79, 89, 5, 5, 79, 89, 6, 5, 79, 181, 0, 38, 42]
abbrev dktX7_init_3 : List UInt8 := dkwX7_init_3 ++ dktX7_init_4
def dkwX7_init_2 : List UInt8 := [89, 5, 18, 27, 83, 89, 6, 18, 29, 83, 89, 7, 18, 31, 83, 89, 8, 18, 33, 83, 181, 0, 35, 42]
abbrev dktX7_init_2 : List UInt8 := dkwX7_init_2 ++ dktX7_init_3
def dkwX7_init_1 : List UInt8 := [89, 6, 18, 17, 83, 181, 0, 19, 42, 16, 6, 189, 0, 9, 89, 3, 18, 23, 83, 89, 4, 18, 25, 83]
abbrev dktX7_init_1 : List UInt8 := dkwX7_init_1 ++ dktX7_init_2
def dkwX7_init_0 : List UInt8 := [42, 183, 0, 3, 42, 7, 189, 0, 9, 89, 3, 18, 11, 83, 89, 4, 18, 13, 83, 89, 5, 18, 15, 83]
abbrev dktX7_init_0 : List UInt8 := dkwX7_init_0 ++ dktX7_init_1
theorem dksX7_init_0 : cX7_init.data.toList.drop 0 = dktX7_init_0 := by decide +kernel
theorem dksX7_init_1 : cX7_init.data.toList.drop 24 = dktX7_init_1 := dk_seg dksX7_init_0 24 rfl rfl
theorem dksX7_init_2 : cX7_init.data.toList.drop 48 = dktX7_init_2 := dk_seg dksX7_init_1 24 rfl rfl
theorem dksX7_init_3 : cX7_init.data.toList.drop 72 = dktX7_init_3 := dk_seg dksX7_init_2 24 rfl rfl
theorem dksX7_init_4 : cX7_init.data.toList.drop 95 = dktX7_init_4 := dk_seg dksX7_init_3 23 rfl rfl
theorem dksX7_init_5 : cX7_init.data.toList.drop 119 = dktX7_init_5 := dk_seg dksX7_init_4 24 rfl rfl
theorem dksX7_init_6 : cX7_init.data.toList.drop 143 = dktX7_init_6 := dk_seg dksX7_init_5 24 rfl rfl
theorem dksX7_init_7 : cX7_init.data.toList.drop 167 = dktX7_init_7 := dk_seg dksX7_init_6 24 rfl rfl
theorem dksX7_init_8 : cX7_init.data.toList.drop 191 = dktX7_init_8 := dk_seg dksX7_init_7 24 rfl rfl
theorem dksX7_init_9 : cX7_init.data.toList.drop 215 = dktX7_init_9 := dk_seg dksX7_init_8 24 rfl rfl
theorem dksX7_init_10 : cX7_init.data.toList.drop 239 = dktX7_init_10 := dk_seg dksX7_init_9 24 rfl rfl
theorem dksX7_init_11 : cX7_init.data.toList.drop 261 = dktX7_init_11 := dk_seg dksX7_init_10 22 rfl rfl
theorem dksX7_init_12 : cX7_init.data.toList.drop 284 = dktX7_init_12 := dk_seg dksX7_init_11 23 rfl rfl
theorem dksX7_init_13 : cX7_init.data.toList.drop 308 = dktX7_init_13 := dk_seg dksX7_init_12 24 rfl rfl
theorem dksX7_init_14 : cX7_init.data.toList.drop 332 = dktX7_init_14 := dk_seg dksX7_init_13 24 rfl rfl
theorem dksX7_init_15 : cX7_init.data.toList.drop 354 = dktX7_init_15 := dk_seg dksX7_init_14 22 rfl rfl
theorem dksX7_init_16 : cX7_init.data.toList.drop 378 = dktX7_init_16 := dk_seg dksX7_init_15 24 rfl rfl
theorem dksX7_init_17 : cX7_init.data.toList.drop 401 = dktX7_init_17 := dk_seg dksX7_init_16 23 rfl rfl
theorem dX7_init_0 : decode cX7_init 0 = .ok (.aload_n 0, 1) := dk_42 (dk_at dksX7_init_0 0 rfl rfl)
theorem dX7_init_1 : decode cX7_init 1 = .ok (.invokespecial 3, 3) := dk_183 0 3 (dk_at dksX7_init_0 1 rfl rfl)
theorem dX7_init_4 : decode cX7_init 4 = .ok (.aload_n 0, 1) := dk_42 (dk_at dksX7_init_0 4 rfl rfl)
theorem dX7_init_5 : decode cX7_init 5 = .ok (.iconst 4, 1) := dk_7 (dk_at dksX7_init_0 5 rfl rfl)
theorem dX7_init_6 : decode cX7_init 6 = .ok (.anewarray 9, 3) := dk_189 0 9 (dk_at dksX7_init_0 6 rfl rfl)
theorem dX7_init_9 : decode cX7_init 9 = .ok (.dup, 1) := dk_89 (dk_at dksX7_init_0 9 rfl rfl)
theorem dX7_init_10 : decode cX7_init 10 = .ok (.iconst 0, 1) := dk_3 (dk_at dksX7_init_0 10 rfl rfl)
theorem dX7_init_11 : decode cX7_init 11 = .ok (.ldc 11, 2) := dk_18 11 (dk_at dksX7_init_0 11 rfl rfl)
theorem dX7_init_13 : decode cX7_init 13 = .ok (.aastore, 1) := dk_83 (dk_at dksX7_init_0 13 rfl rfl)
theorem dX7_init_14 : decode cX7_init 14 = .ok (.dup, 1) := dk_89 (dk_at dksX7_init_0 14 rfl rfl)
theorem dX7_init_15 : decode cX7_init 15 = .ok (.iconst 1, 1) := dk_4 (dk_at dksX7_init_0 15 rfl rfl)
theorem dX7_init_16 : decode cX7_init 16 = .ok (.ldc 13, 2) := dk_18 13 (dk_at dksX7_init_0 16 rfl rfl)
theorem dX7_init_18 : decode cX7_init 18 = .ok (.aastore, 1) := dk_83 (dk_at dksX7_init_0 18 rfl rfl)
theorem dX7_init_19 : decode cX7_init 19 = .ok (.dup, 1) := dk_89 (dk_at dksX7_init_0 19 rfl rfl)
theorem dX7_init_20 : decode cX7_init 20 = .ok (.iconst 2, 1) := dk_5 (dk_at dksX7_init_0 20 rfl rfl)
theorem dX7_init_21 : decode cX7_init 21 = .ok (.ldc 15, 2) := dk_18 15 (dk_at dksX7_init_0 21 rfl rfl)
theorem dX7_init_23 : decode cX7_init 23 = .ok (.aastore, 1) := dk_83 (dk_at dksX7_init_0 23 rfl rfl)
theorem dX7_init_24 : decode cX7_init 24 = .ok (.dup, 1) := dk_89 (dk_at dksX7_init_1 0 rfl rfl)
theorem dX7_init_25 : decode cX7_init 25 = .ok (.iconst 3, 1) := dk_6 (dk_at dksX7_init_1 1 rfl rfl)
theorem dX7_init_26 : decode cX7_init 26 = .ok (.ldc 17, 2) := dk_18 17 (dk_at dksX7_init_1 2 rfl rfl)
theorem dX7_init_28 : decode cX7_init 28 = .ok (.aastore, 1) := dk_83 (dk_at dksX7_init_1 4 rfl rfl)
theorem dX7_init_29 : decode cX7_init 29 = .ok (.putfield 19, 3) := dk_181 0 19 (dk_at dksX7_init_1 5 rfl rfl)
theorem dX7_init_32 : decode cX7_init 32 = .ok (.aload_n 0, 1) := dk_42 (dk_at dksX7_init_1 8 rfl rfl)
theorem dX7_init_33 : decode cX7_init 33 = .ok (.bipush 6, 2) := dk_16 6 (dk_at dksX7_init_1 9 rfl rfl)
theorem dX7_init_35 : decode cX7_init 35 = .ok (.anewarray 9, 3) := dk_189 0 9 (dk_at dksX7_init_1 11 rfl rfl)
theorem dX7_init_38 : decode cX7_init 38 = .ok (.dup, 1) := dk_89 (dk_at dksX7_init_1 14 rfl rfl)
theorem dX7_init_39 : decode cX7_init 39 = .ok (.iconst 0, 1) := dk_3 (dk_at dksX7_init_1 15 rfl rfl)
theorem dX7_init_40 : decode cX7_init 40 = .ok (.ldc 23, 2) := dk_18 23 (dk_at dksX7_init_1 16 rfl rfl)
theorem dX7_init_42 : decode cX7_init 42 = .ok (.aastore, 1) := dk_83 (dk_at dksX7_init_1 18 rfl rfl)
theorem dX7_init_43 : decode cX7_init 43 = .ok (.dup, 1) := dk_89 (dk_at dksX7_init_1 19 rfl rfl)
theorem dX7_init_44 : decode cX7_init 44 = .ok (.iconst 1, 1) := dk_4 (dk_at dksX7_init_1 20 rfl rfl)
theorem dX7_init_45 : decode cX7_init 45 = .ok (.ldc 25, 2) := dk_18 25 (dk_at dksX7_init_1 21 rfl rfl)
theorem dX7_init_47 : decode cX7_init 47 = .ok (.aastore, 1) := dk_83 (dk_at dksX7_init_1 23 rfl rfl)
theorem dX7_init_48 : decode cX7_init 48 = .ok (.dup, 1) := dk_89 (dk_at dksX7_init_2 0 rfl rfl)
theorem dX7_init_49 : decode cX7_init 49 = .ok (.iconst 2, 1) := dk_5 (dk_at dksX7_init_2 1 rfl rfl)
theorem dX7_init_50 : decode cX7_init 50 = .ok (.ldc 27, 2) := dk_18 27 (dk_at dksX7_init_2 2 rfl rfl)
theorem dX7_init_52 : decode cX7_init 52 = .ok (.aastore, 1) := dk_83 (dk_at dksX7_init_2 4 rfl rfl)
theorem dX7_init_53 : decode cX7_init 53 = .ok (.dup, 1) := dk_89 (dk_at dksX7_init_2 5 rfl rfl)
theorem dX7_init_54 : decode cX7_init 54 = .ok (.iconst 3, 1) := dk_6 (dk_at dksX7_init_2 6 rfl rfl)
theorem dX7_init_55 : decode cX7_init 55 = .ok (.ldc 29, 2) := dk_18 29 (dk_at dksX7_init_2 7 rfl rfl)
theorem dX7_init_57 : decode cX7_init 57 = .ok (.aastore, 1) := dk_83 (dk_at dksX7_init_2 9 rfl rfl)
theorem dX7_init_58 : decode cX7_init 58 = .ok (.dup, 1) := dk_89 (dk_at dksX7_init_2 10 rfl rfl)
theorem dX7_init_59 : decode cX7_init 59 = .ok (.iconst 4, 1) := dk_7 (dk_at dksX7_init_2 11 rfl rfl)
theorem dX7_init_60 : decode cX7_init 60 = .ok (.ldc 31, 2) := dk_18 31 (dk_at dksX7_init_2 12 rfl rfl)
theorem dX7_init_62 : decode cX7_init 62 = .ok (.aastore, 1) := dk_83 (dk_at dksX7_init_2 14 rfl rfl)
theorem dX7_init_63 : decode cX7_init 63 = .ok (.dup, 1) := dk_89 (dk_at dksX7_init_2 15 rfl rfl)
theorem dX7_init_64 : decode cX7_init 64 = .ok (.iconst 5, 1) := dk_8 (dk_at dksX7_init_2 16 rfl rfl)
theorem dX7_init_65 : decode cX7_init 65 = .ok (.ldc 33, 2) := dk_18 33 (dk_at dksX7_init_2 17 rfl rfl)
theorem dX7_init_67 : decode cX7_init 67 = .ok (.aastore, 1) := dk_83 (dk_at dksX7_init_2 19 rfl rfl)
theorem dX7_init_68 : decode cX7_init 68 = .ok (.putfield 35, 3) := dk_181 0 35 (dk_at dksX7_init_2 20 rfl rfl)
theorem dX7_init_71 : decode cX7_init 71 = .ok (.aload_n 0, 1) := dk_42 (dk_at dksX7_init_2 23 rfl rfl)
theorem dX7_init_72 : decode cX7_init 72 = .ok (.iconst 4, 1) := dk_7 (dk_at dksX7_init_3 0 rfl rfl)
theorem dX7_init_73 : decode cX7_init 73 = .ok (.newarray .int, 2) := dk_188_10 (dk_at dksX7_init_3 1 rfl rfl)
theorem dX7_init_75 : decode cX7_init 75 = .ok (.dup, 1) := dk_89 (dk_at dksX7_init_3 3 rfl rfl)
theorem dX7_init_76 : decode cX7_init 76 = .ok (.iconst 0, 1) := dk_3 (dk_at dksX7_init_3 4 rfl rfl)
theorem dX7_init_77 : decode cX7_init 77 = .ok (.iconst 3, 1) := dk_6 (dk_at dksX7_init_3 5 rfl rfl)
theorem dX7_init_78 : decode cX7_init 78 = .ok (.iastore, 1) := dk_79 (dk_at dksX7_init_3 6 rfl rfl)
theorem dX7_init_79 : decode cX7_init 79 = .ok (.dup, 1) := dk_89 (dk_at dksX7_init_3 7 rfl rfl)
theorem dX7_init_80 : decode cX7_init 80 = .ok (.iconst 1, 1) := dk_4 (dk_at dksX7_init_3 8 rfl rfl)
theorem dX7_init_81 : decode cX7_init 81 = .ok (.iconst 1, 1) := dk_4 (dk_at dksX7_init_3 9 rfl rfl)
theorem dX7_init_82 : decode cX7_init 82 = .ok (.iastore, 1) := dk_79 (dk_at dksX7_init_3 10 rfl rfl)
theorem dX7_init_83 : decode cX7_init 83 = .ok (.dup, 1) := dk_89 (dk_at dksX7_init_3 11 rfl rfl)
theorem dX7_init_84 : decode cX7_init 84 = .ok (.iconst 2, 1) := dk_5 (dk_at dksX7_init_3 12 rfl rfl)
theorem dX7_init_85 : decode cX7_init 85 = .ok (.iconst 2, 1) := dk_5 (dk_at dksX7_init_3 13 rfl rfl)
theorem dX7_init_86 : decode cX7_init 86 = .ok (.iastore, 1) := dk_79 (dk_at dksX7_init_3 14 rfl rfl)
theorem dX7_init_87 : decode cX7_init 87 = .ok (.dup, 1) := dk_89 (dk_at dksX7_init_3 15 rfl rfl)
theorem dX7_init_88 : decode cX7_init 88 = .ok (.iconst 3, 1) := dk_6 (dk_at dksX7_init_3 16 rfl rfl)
theorem dX7_init_89 : decode cX7_init 89 = .ok (.iconst 2, 1) := dk_5 (dk_at dksX7_init_3 17 rfl rfl)
theorem dX7_init_90 : decode cX7_init 90 = .ok (.iastore, 1) := dk_79 (dk_at dksX7_init_3 18 rfl rfl)
theorem dX7_init_91 : decode cX7_init 91 = .ok (.putfield 38, 3) := dk_181 0 38 (dk_at dksX7_init_3 19 rfl rfl)
theorem dX7_init_94 : decode cX7_init 94 = .ok (.aload_n 0, 1) := dk_42 (dk_at dksX7_init_3 22 rfl rfl)
theorem dX7_init_95 : decode cX7_init 95 = .ok (.bipush 8, 2) := dk_16 8 (dk_at dksX7_init_4 0 rfl rfl)
theorem dX7_init_97 : decode cX7_init 97 = .ok (.newarray .int, 2) := dk_188_10 (dk_at dksX7_init_4 2 rfl rfl)
theorem dX7_init_99 : decode cX7_init 99 = .ok (.dup, 1) := dk_89 (dk_at dksX7_init_4 4 rfl rfl)
theorem dX7_init_100 : decode cX7_init 100 = .ok (.iconst 0, 1) := dk_3 (dk_at dksX7_init_4 5 rfl rfl)
theorem dX7_init_101 : decode cX7_init 101 = .ok (.iconst 0, 1) := dk_3 (dk_at dksX7_init_4 6 rfl rfl)
theorem dX7_init_102 : decode cX7_init 102 = .ok (.iastore, 1) := dk_79 (dk_at dksX7_init_4 7 rfl rfl)
theorem dX7_init_103 : decode cX7_init 103 = .ok (.dup, 1) := dk_89 (dk_at dksX7_init_4 8 rfl rfl)
theorem dX7_init_104 : decode cX7_init 104 = .ok (.iconst 1, 1) := dk_4 (dk_at dksX7_init_4 9 rfl rfl)
theorem dX7_init_105 : decode cX7_init 105 = .ok (.bipush 9, 2) := dk_16 9 (dk_at dksX7_init_4 10 rfl rfl)
theorem dX7_init_107 : decode cX7_init 107 = .ok (.iastore, 1) := dk_79 (dk_at dksX7_init_4 12 rfl rfl)
theorem dX7_init_108 : decode cX7_init 108 = .ok (.dup, 1) := dk_89 (dk_at dksX7_init_4 13 rfl rfl)
theorem dX7_init_109 : decode cX7_init 109 = .ok (.iconst 2, 1) := dk_5 (dk_at dksX7_init_4 14 rfl rfl)
theorem dX7_init_110 : decode cX7_init 110 = .ok (.bipush 100, 2) := dk_16 100 (dk_at dksX7_init_4 15 rfl rfl)
theorem dX7_init_112 : decode cX7_init 112 = .ok (.iastore, 1) := dk_79 (dk_at dksX7_init_4 17 rfl rfl)
theorem dX7_init_113 : decode cX7_init 113 = .ok (.dup, 1) := dk_89 (dk_at dksX7_init_4 18 rfl rfl)
theorem dX7_init_114 : decode cX7_init 114 = .ok (.iconst 3, 1) := dk_6 (dk_at dksX7_init_4 19 rfl rfl)
theorem dX7_init_115 : decode cX7_init 115 = .ok (.iconst 0, 1) := dk_3 (dk_at dksX7_init_4 20 rfl rfl)
theorem dX7_init_116 : decode cX7_init 116 = .ok (.iastore, 1) := dk_79 (dk_at dksX7_init_4 21 rfl rfl)
theorem dX7_init_117 : decode cX7_init 117 = .ok (.dup, 1) := dk_89 (dk_at dksX7_init_4 22 rfl rfl)
theorem dX7_init_118 : decode cX7_init 118 = .ok (.iconst 4, 1) := dk_7 (dk_at dksX7_init_4 23 rfl rfl)
theorem dX7_init_119 : decode cX7_init 119 = .ok (.iconst 0, 1) := dk_3 (dk_at dksX7_init_5 0 rfl rfl)
theorem dX7_init_120 : decode cX7_init 120 = .ok (.iastore, 1) := dk_79 (dk_at dksX7_init_5 1 rfl rfl)
theorem dX7_init_121 : decode cX7_init 121 = .ok (.dup, 1) := dk_89 (dk_at dksX7_init_5 2 rfl rfl)
theorem dX7_init_122 : decode cX7_init 122 = .ok (.iconst 5, 1) := dk_8 (dk_at dksX7_init_5 3 rfl rfl)
theorem dX7_init_123 : decode cX7_init 123 = .ok (.bipush 9, 2) := dk_16 9 (dk_at dksX7_init_5 4 rfl rfl)
theorem dX7_init_125 : decode cX7_init 125 = .ok (.iastore, 1) := dk_79 (dk_at dksX7_init_5 6 rfl rfl)
theorem dX7_init_126 : decode cX7_init 126 = .ok (.dup, 1) := dk_89 (dk_at dksX7_init_5 7 rfl rfl)
theorem dX7_init_127 : decode cX7_init 127 = .ok (.bipush 6, 2) := dk_16 6 (dk_at dksX7_init_5 8 rfl rfl)
theorem dX7_init_129 : decode cX7_init 129 = .ok (.bipush 100, 2) := dk_16 100 (dk_at dksX7_init_5 10 rfl rfl)
theorem dX7_init_131 : decode cX7_init 131 = .ok (.iastore, 1) := dk_79 (dk_at dksX7_init_5 12 rfl rfl)
theorem dX7_init_132 : decode cX7_init 132 = .ok (.dup, 1) := dk_89 (dk_at dksX7_init_5 13 rfl rfl)
theorem dX7_init_133 : decode cX7_init 133 = .ok (.bipush 7, 2) := dk_16 7 (dk_at dksX7_init_5 14 rfl rfl)
theorem dX7_init_135 : decode cX7_init 135 = .ok (.iconst 0, 1) := dk_3 (dk_at dksX7_init_5 16 rfl rfl)
theorem dX7_init_136 : decode cX7_init 136 = .ok (.iastore, 1) := dk_79 (dk_at dksX7_init_5 17 rfl rfl)
theorem dX7_init_137 : decode cX7_init 137 = .ok (.putfield 42, 3) := dk_181 0 42 (dk_at dksX7_init_5 18 rfl rfl)
theorem dX7_init_140 : decode cX7_init 140 = .ok (.aload_n 0, 1) := dk_42 (dk_at dksX7_init_5 21 rfl rfl)
theorem dX7_init_141 : decode cX7_init 141 = .ok (.bipush 20, 2) := dk_16 20 (dk_at dksX7_init_5 22 rfl rfl)
theorem dX7_init_143 : decode cX7_init 143 = .ok (.newarray .int, 2) := dk_188_10 (dk_at dksX7_init_6 0 rfl rfl)
theorem dX7_init_145 : decode cX7_init 145 = .ok (.putfield 45, 3) := dk_181 0 45 (dk_at dksX7_init_6 2 rfl rfl)
theorem dX7_init_148 : decode cX7_init 148 = .ok (.aload_n 0, 1) := dk_42 (dk_at dksX7_init_6 5 rfl rfl)
theorem dX7_init_149 : decode cX7_init 149 = .ok (.bipush 20, 2) := dk_16 20 (dk_at dksX7_init_6 6 rfl rfl)
theorem dX7_init_151 : decode cX7_init 151 = .ok (.newarray .int, 2) := dk_188_10 (dk_at dksX7_init_6 8 rfl rfl)
theorem dX7_init_153 : decode cX7_init 153 = .ok (.putfield 47, 3) := dk_181 0 47 (dk_at dksX7_init_6 10 rfl rfl)
theorem dX7_init_156 : decode cX7_init 156 = .ok (.aload_n 0, 1) := dk_42 (dk_at dksX7_init_6 13 rfl rfl)
theorem dX7_init_157 : decode cX7_init 157 = .ok (.bipush 20, 2) := dk_16 20 (dk_at dksX7_init_6 14 rfl rfl)
theorem dX7_init_159 : decode cX7_init 159 = .ok (.newarray .int, 2) := dk_188_10 (dk_at dksX7_init_6 16 rfl rfl)
theorem dX7_init_161 : decode cX7_init 161 = .ok (.putfield 49, 3) := dk_181 0 49 (dk_at dksX7_init_6 18 rfl rfl)
theorem dX7_init_164 : decode cX7_init 164 = .ok (.aload_n 0, 1) := dk_42 (dk_at dksX7_init_6 21 rfl rfl)
theorem dX7_init_165 : decode cX7_init 165 = .ok (.bipush 20, 2) := dk_16 20 (dk_at dksX7_init_6 22 rfl rfl)
theorem dX7_init_167 : decode cX7_init 167 = .ok (.newarray .int, 2) := dk_188_10 (dk_at dksX7_init_7 0 rfl rfl)
theorem dX7_init_169 : decode cX7_init 169 = .ok (.putfield 52, 3) := dk_181 0 52 (dk_at dksX7_init_7 2 rfl rfl)
theorem dX7_init_172 : decode cX7_init 172 = .ok (.aload_n 0, 1) := dk_42 (dk_at dksX7_init_7 5 rfl rfl)
theorem dX7_init_173 : decode cX7_init 173 = .ok (.bipush 20, 2) := dk_16 20 (dk_at dksX7_init_7 6 rfl rfl)
theorem dX7_init_175 : decode cX7_init 175 = .ok (.newarray .int, 2) := dk_188_10 (dk_at dksX7_init_7 8 rfl rfl)
theorem dX7_init_177 : decode cX7_init 177 = .ok (.putfield 55, 3) := dk_181 0 55 (dk_at dksX7_init_7 10 rfl rfl)
theorem dX7_init_180 : decode cX7_init 180 = .ok (.aload_n 0, 1) := dk_42 (dk_at dksX7_init_7 13 rfl rfl)
theorem dX7_init_181 : decode cX7_init 181 = .ok (.sipush 1200, 3) := dk_17 4 176 (dk_at dksX7_init_7 14 rfl rfl)
theorem dX7_init_184 : decode cX7_init 184 = .ok (.newarray .int, 2) := dk_188_10 (dk_at dksX7_init_7 17 rfl rfl)
theorem dX7_init_186 : decode cX7_init 186 = .ok (.putfield 57, 3) := dk_181 0 57 (dk_at dksX7_init_7 19 rfl rfl)
theorem dX7_init_189 : decode cX7_init 189 = .ok (.aload_n 0, 1) := dk_42 (dk_at dksX7_init_7 22 rfl rfl)
theorem dX7_init_190 : decode cX7_init 190 = .ok (.iconst 3, 1) := dk_6 (dk_at dksX7_init_7 23 rfl rfl)
theorem dX7_init_191 : decode cX7_init 191 = .ok (.newarray .int, 2) := dk_188_10 (dk_at dksX7_init_8 0 rfl rfl)
theorem dX7_init_193 : decode cX7_init 193 = .ok (.putfield 60, 3) := dk_181 0 60 (dk_at dksX7_init_8 2 rfl rfl)
theorem dX7_init_196 : decode cX7_init 196 = .ok (.aload_n 0, 1) := dk_42 (dk_at dksX7_init_8 5 rfl rfl)
theorem dX7_init_197 : decode cX7_init 197 = .ok (.sipush 600, 3) := dk_17 2 88 (dk_at dksX7_init_8 6 rfl rfl)
theorem dX7_init_200 : decode cX7_init 200 = .ok (.newarray .int, 2) := dk_188_10 (dk_at dksX7_init_8 9 rfl rfl)
theorem dX7_init_202 : decode cX7_init 202 = .ok (.putfield 63, 3) := dk_181 0 63 (dk_at dksX7_init_8 11 rfl rfl)
theorem dX7_init_205 : decode cX7_init 205 = .ok (.aload_n 0, 1) := dk_42 (dk_at dksX7_init_8 14 rfl rfl)
theorem dX7_init_206 : decode cX7_init 206 = .ok (.iconst (-1), 1) := dk_2 (dk_at dksX7_init_8 15 rfl rfl)
theorem dX7_init_207 : decode cX7_init 207 = .ok (.putfield 66, 3) := dk_181 0 66 (dk_at dksX7_init_8 16 rfl rfl)
theorem dX7_init_210 : decode cX7_init 210 = .ok (.aload_n 0, 1) := dk_42 (dk_at dksX7_init_8 19 rfl rfl)
theorem dX7_init_211 : decode cX7_init 211 = .ok (.bipush 10, 2) := dk_16 10 (dk_at dksX7_init_8 20 rfl rfl)
theorem dX7_init_213 : decode cX7_init 213 = .ok (.newarray .int, 2) := dk_188_10 (dk_at dksX7_init_8 22 rfl rfl)
theorem dX7_init_215 : decode cX7_init 215 = .ok (.putfield 70, 3) := dk_181 0 70 (dk_at dksX7_init_9 0 rfl rfl)
theorem dX7_init_218 : decode cX7_init 218 = .ok (.aload_n 0, 1) := dk_42 (dk_at dksX7_init_9 3 rfl rfl)
theorem dX7_init_219 : decode cX7_init 219 = .ok (.bipush 10, 2) := dk_16 10 (dk_at dksX7_init_9 4 rfl rfl)
theorem dX7_init_221 : decode cX7_init 221 = .ok (.newarray .int, 2) := dk_188_10 (dk_at dksX7_init_9 6 rfl rfl)
theorem dX7_init_223 : decode cX7_init 223 = .ok (.putfield 73, 3) := dk_181 0 73 (dk_at dksX7_init_9 8 rfl rfl)
theorem dX7_init_226 : decode cX7_init 226 = .ok (.aload_n 0, 1) := dk_42 (dk_at dksX7_init_9 11 rfl rfl)
theorem dX7_init_227 : decode cX7_init 227 = .ok (.bipush 10, 2) := dk_16 10 (dk_at dksX7_init_9 12 rfl rfl)
theorem dX7_init_229 : decode cX7_init 229 = .ok (.newarray .int, 2) := dk_188_10 (dk_at dksX7_init_9 14 rfl rfl)
theorem dX7_init_231 : decode cX7_init 231 = .ok (.putfield 76, 3) := dk_181 0 76 (dk_at dksX7_init_9 16 rfl rfl)
theorem dX7_init_234 : decode cX7_init 234 = .ok (.aload_n 0, 1) := dk_42 (dk_at dksX7_init_9 19 rfl rfl)
theorem dX7_init_235 : decode cX7_init 235 = .ok (.bipush 10, 2) := dk_16 10 (dk_at dksX7_init_9 20 rfl rfl)
theorem dX7_init_237 : decode cX7_init 237 = .ok (.newarray .int, 2) := dk_188_10 (dk_at dksX7_init_9 22 rfl rfl)
theorem dX7_init_239 : decode cX7_init 239 = .ok (.putfield 79, 3) := dk_181 0 79 (dk_at dksX7_init_10 0 rfl rfl)
theorem dX7_init_242 : decode cX7_init 242 = .ok (.aload_n 0, 1) := dk_42 (dk_at dksX7_init_10 3 rfl rfl)
theorem dX7_init_243 : decode cX7_init 243 = .ok (.sipush 1720, 3) := dk_17 6 184 (dk_at dksX7_init_10 4 rfl rfl)
theorem dX7_init_246 : decode cX7_init 246 = .ok (.newarray .int, 2) := dk_188_10 (dk_at dksX7_init_10 7 rfl rfl)
theorem dX7_init_248 : decode cX7_init 248 = .ok (.putfield 82, 3) := dk_181 0 82 (dk_at dksX7_init_10 9 rfl rfl)
theorem dX7_init_251 : decode cX7_init 251 = .ok (.aload_n 0, 1) := dk_42 (dk_at dksX7_init_10 12 rfl rfl)
theorem dX7_init_252 : decode cX7_init 252 = .ok (.iconst (-1), 1) := dk_2 (dk_at dksX7_init_10 13 rfl rfl)
theorem dX7_init_253 : decode cX7_init 253 = .ok (.putfield 85, 3) := dk_181 0 85 (dk_at dksX7_init_10 14 rfl rfl)
theorem dX7_init_256 : decode cX7_init 256 = .ok (.aload_n 0, 1) := dk_42 (dk_at dksX7_init_10 17 rfl rfl)
theorem dX7_init_257 : decode cX7_init 257 = .ok (.bipush 6, 2) := dk_16 6 (dk_at dksX7_init_10 18 rfl rfl)
theorem dX7_init_259 : decode cX7_init 259 = .ok (.newarray .int, 2) := dk_188_10 (dk_at dksX7_init_10 20 rfl rfl)
theorem dX7_init_261 : decode cX7_init 261 = .ok (.putfield 88, 3) := dk_181 0 88 (dk_at dksX7_init_11 0 rfl rfl)
theorem dX7_init_264 : decode cX7_init 264 = .ok (.aload_n 0, 1) := dk_42 (dk_at dksX7_init_11 3 rfl rfl)
theorem dX7_init_265 : decode cX7_init 265 = .ok (.bipush 64, 2) := dk_16 64 (dk_at dksX7_init_11 4 rfl rfl)
theorem dX7_init_267 : decode cX7_init 267 = .ok (.newarray .int, 2) := dk_188_10 (dk_at dksX7_init_11 6 rfl rfl)
theorem dX7_init_269 : decode cX7_init 269 = .ok (.putfield 91, 3) := dk_181 0 91 (dk_at dksX7_init_11 8 rfl rfl)
theorem dX7_init_272 : decode cX7_init 272 = .ok (.aload_n 0, 1) := dk_42 (dk_at dksX7_init_11 11 rfl rfl)
theorem dX7_init_273 : decode cX7_init 273 = .ok (.bipush 43, 2) := dk_16 43 (dk_at dksX7_init_11 12 rfl rfl)
theorem dX7_init_275 : decode cX7_init 275 = .ok (.newarray .int, 2) := dk_188_10 (dk_at dksX7_init_11 14 rfl rfl)
theorem dX7_init_277 : decode cX7_init 277 = .ok (.putfield 94, 3) := dk_181 0 94 (dk_at dksX7_init_11 16 rfl rfl)
theorem dX7_init_280 : decode cX7_init 280 = .ok (.aload_n 0, 1) := dk_42 (dk_at dksX7_init_11 19 rfl rfl)
theorem dX7_init_281 : decode cX7_init 281 = .ok (.sipush 1024, 3) := dk_17 4 0 (dk_at dksX7_init_11 20 rfl rfl)
theorem dX7_init_284 : decode cX7_init 284 = .ok (.newarray .int, 2) := dk_188_10 (dk_at dksX7_init_12 0 rfl rfl)
theorem dX7_init_286 : decode cX7_init 286 = .ok (.putfield 97, 3) := dk_181 0 97 (dk_at dksX7_init_12 2 rfl rfl)
theorem dX7_init_289 : decode cX7_init 289 = .ok (.aload_n 0, 1) := dk_42 (dk_at dksX7_init_12 5 rfl rfl)
theorem dX7_init_290 : decode cX7_init 290 = .ok (.sipush 1024, 3) := dk_17 4 0 (dk_at dksX7_init_12 6 rfl rfl)
theorem dX7_init_293 : decode cX7_init 293 = .ok (.newarray .int, 2) := dk_188_10 (dk_at dksX7_init_12 9 rfl rfl)
theorem dX7_init_295 : decode cX7_init 295 = .ok (.putfield 100, 3) := dk_181 0 100 (dk_at dksX7_init_12 11 rfl rfl)
theorem dX7_init_298 : decode cX7_init 298 = .ok (.aload_n 0, 1) := dk_42 (dk_at dksX7_init_12 14 rfl rfl)
theorem dX7_init_299 : decode cX7_init 299 = .ok (.sipush 1024, 3) := dk_17 4 0 (dk_at dksX7_init_12 15 rfl rfl)
theorem dX7_init_302 : decode cX7_init 302 = .ok (.newarray .long, 2) := dk_188_11 (dk_at dksX7_init_12 18 rfl rfl)
theorem dX7_init_304 : decode cX7_init 304 = .ok (.putfield 103, 3) := dk_181 0 103 (dk_at dksX7_init_12 20 rfl rfl)
theorem dX7_init_307 : decode cX7_init 307 = .ok (.aload_n 0, 1) := dk_42 (dk_at dksX7_init_12 23 rfl rfl)
theorem dX7_init_308 : decode cX7_init 308 = .ok (.bipush 81, 2) := dk_16 81 (dk_at dksX7_init_13 0 rfl rfl)
theorem dX7_init_310 : decode cX7_init 310 = .ok (.newarray .int, 2) := dk_188_10 (dk_at dksX7_init_13 2 rfl rfl)
theorem dX7_init_312 : decode cX7_init 312 = .ok (.putfield 107, 3) := dk_181 0 107 (dk_at dksX7_init_13 4 rfl rfl)
theorem dX7_init_315 : decode cX7_init 315 = .ok (.aload_n 0, 1) := dk_42 (dk_at dksX7_init_13 7 rfl rfl)
theorem dX7_init_316 : decode cX7_init 316 = .ok (.bipush 81, 2) := dk_16 81 (dk_at dksX7_init_13 8 rfl rfl)
theorem dX7_init_318 : decode cX7_init 318 = .ok (.newarray .int, 2) := dk_188_10 (dk_at dksX7_init_13 10 rfl rfl)
theorem dX7_init_320 : decode cX7_init 320 = .ok (.putfield 110, 3) := dk_181 0 110 (dk_at dksX7_init_13 12 rfl rfl)
theorem dX7_init_323 : decode cX7_init 323 = .ok (.aload_n 0, 1) := dk_42 (dk_at dksX7_init_13 15 rfl rfl)
theorem dX7_init_324 : decode cX7_init 324 = .ok (.bipush 8, 2) := dk_16 8 (dk_at dksX7_init_13 16 rfl rfl)
theorem dX7_init_326 : decode cX7_init 326 = .ok (.newarray .int, 2) := dk_188_10 (dk_at dksX7_init_13 18 rfl rfl)
theorem dX7_init_328 : decode cX7_init 328 = .ok (.putfield 113, 3) := dk_181 0 113 (dk_at dksX7_init_13 20 rfl rfl)
theorem dX7_init_331 : decode cX7_init 331 = .ok (.aload_n 0, 1) := dk_42 (dk_at dksX7_init_13 23 rfl rfl)
theorem dX7_init_332 : decode cX7_init 332 = .ok (.bipush 8, 2) := dk_16 8 (dk_at dksX7_init_14 0 rfl rfl)
theorem dX7_init_334 : decode cX7_init 334 = .ok (.newarray .int, 2) := dk_188_10 (dk_at dksX7_init_14 2 rfl rfl)
theorem dX7_init_336 : decode cX7_init 336 = .ok (.putfield 116, 3) := dk_181 0 116 (dk_at dksX7_init_14 4 rfl rfl)
theorem dX7_init_339 : decode cX7_init 339 = .ok (.aload_n 0, 1) := dk_42 (dk_at dksX7_init_14 7 rfl rfl)
theorem dX7_init_340 : decode cX7_init 340 = .ok (.sipush 200, 3) := dk_17 0 200 (dk_at dksX7_init_14 8 rfl rfl)
theorem dX7_init_343 : decode cX7_init 343 = .ok (.newarray .int, 2) := dk_188_10 (dk_at dksX7_init_14 11 rfl rfl)
theorem dX7_init_345 : decode cX7_init 345 = .ok (.putfield 119, 3) := dk_181 0 119 (dk_at dksX7_init_14 13 rfl rfl)
theorem dX7_init_348 : decode cX7_init 348 = .ok (.aload_n 0, 1) := dk_42 (dk_at dksX7_init_14 16 rfl rfl)
theorem dX7_init_349 : decode cX7_init 349 = .ok (.sipush 200, 3) := dk_17 0 200 (dk_at dksX7_init_14 17 rfl rfl)
theorem dX7_init_352 : decode cX7_init 352 = .ok (.newarray .int, 2) := dk_188_10 (dk_at dksX7_init_14 20 rfl rfl)
theorem dX7_init_354 : decode cX7_init 354 = .ok (.putfield 122, 3) := dk_181 0 122 (dk_at dksX7_init_15 0 rfl rfl)
theorem dX7_init_357 : decode cX7_init 357 = .ok (.aload_n 0, 1) := dk_42 (dk_at dksX7_init_15 3 rfl rfl)
theorem dX7_init_358 : decode cX7_init 358 = .ok (.sipush 200, 3) := dk_17 0 200 (dk_at dksX7_init_15 4 rfl rfl)
theorem dX7_init_361 : decode cX7_init 361 = .ok (.newarray .int, 2) := dk_188_10 (dk_at dksX7_init_15 7 rfl rfl)
theorem dX7_init_363 : decode cX7_init 363 = .ok (.putfield 125, 3) := dk_181 0 125 (dk_at dksX7_init_15 9 rfl rfl)
theorem dX7_init_366 : decode cX7_init 366 = .ok (.aload_n 0, 1) := dk_42 (dk_at dksX7_init_15 12 rfl rfl)
theorem dX7_init_367 : decode cX7_init 367 = .ok (.bipush 43, 2) := dk_16 43 (dk_at dksX7_init_15 13 rfl rfl)
theorem dX7_init_369 : decode cX7_init 369 = .ok (.newarray .int, 2) := dk_188_10 (dk_at dksX7_init_15 15 rfl rfl)
theorem dX7_init_371 : decode cX7_init 371 = .ok (.putfield 128, 3) := dk_181 0 128 (dk_at dksX7_init_15 17 rfl rfl)
theorem dX7_init_374 : decode cX7_init 374 = .ok (.aload_n 0, 1) := dk_42 (dk_at dksX7_init_15 20 rfl rfl)
theorem dX7_init_375 : decode cX7_init 375 = .ok (.sipush 1720, 3) := dk_17 6 184 (dk_at dksX7_init_15 21 rfl rfl)
theorem dX7_init_378 : decode cX7_init 378 = .ok (.newarray .int, 2) := dk_188_10 (dk_at dksX7_init_16 0 rfl rfl)
theorem dX7_init_380 : decode cX7_init 380 = .ok (.putfield 131, 3) := dk_181 0 131 (dk_at dksX7_init_16 2 rfl rfl)
theorem dX7_init_383 : decode cX7_init 383 = .ok (.aload_n 0, 1) := dk_42 (dk_at dksX7_init_16 5 rfl rfl)
theorem dX7_init_384 : decode cX7_init 384 = .ok (.bipush 8, 2) := dk_16 8 (dk_at dksX7_init_16 6 rfl rfl)
theorem dX7_init_386 : decode cX7_init 386 = .ok (.newarray .int, 2) := dk_188_10 (dk_at dksX7_init_16 8 rfl rfl)
theorem dX7_init_388 : decode cX7_init 388 = .ok (.putfield 134, 3) := dk_181 0 134 (dk_at dksX7_init_16 10 rfl rfl)
theorem dX7_init_391 : decode cX7_init 391 = .ok (.aload_n 0, 1) := dk_42 (dk_at dksX7_init_16 13 rfl rfl)
theorem dX7_init_392 : decode cX7_init 392 = .ok (.bipush 8, 2) := dk_16 8 (dk_at dksX7_init_16 14 rfl rfl)
theorem dX7_init_394 : decode cX7_init 394 = .ok (.newarray .int, 2) := dk_188_10 (dk_at dksX7_init_16 16 rfl rfl)
theorem dX7_init_396 : decode cX7_init 396 = .ok (.putfield 137, 3) := dk_181 0 137 (dk_at dksX7_init_16 18 rfl rfl)
theorem dX7_init_399 : decode cX7_init 399 = .ok (.aload_n 0, 1) := dk_42 (dk_at dksX7_init_16 21 rfl rfl)
theorem dX7_init_400 : decode cX7_init 400 = .ok (.iconst 3, 1) := dk_6 (dk_at dksX7_init_16 22 rfl rfl)
theorem dX7_init_401 : decode cX7_init 401 = .ok (.newarray .int, 2) := dk_188_10 (dk_at dksX7_init_17 0 rfl rfl)
theorem dX7_init_403 : decode cX7_init 403 = .ok (.putfield 140, 3) := dk_181 0 140 (dk_at dksX7_init_17 2 rfl rfl)
theorem dX7_init_406 : decode cX7_init 406 = .ok (.return_, 1) := dk_177 (dk_at dksX7_init_17 5 rfl rfl)
abbrev cX7_thrown : ByteArray := prog_20_method_2_code
def yX7_thrown : MethodName := ⟨RX7, "thrown", "()I"⟩
theorem dX7_thrown_0 : decode cX7_thrown 0 = .ok (.aload_n 0, 1) := by decide +kernel
theorem dX7_thrown_1 : decode cX7_thrown 1 = .ok (.getfield 143, 3) := by decide +kernel
theorem dX7_thrown_4 : decode cX7_thrown 4 = .ok (.ireturn, 1) := by decide +kernel
abbrev cX7_feed : ByteArray := prog_20_method_9_code
def yX7_feed : MethodName := ⟨RX7, "feed", "(IIIII)I"⟩
def dkwX7_feed_5 : List UInt8 := [167, 255, 162, 42, 180, 0, 153, 172]
abbrev dktX7_feed_5 : List UInt8 := dkwX7_feed_5 ++ []
def dkwX7_feed_4 : List UInt8 := [112, 104, 100, 122, 17, 0, 255, 126, 79, 42, 89, 180, 0, 153, 4, 96, 181, 0, 153, 132, 6, 1]
abbrev dktX7_feed_4 : List UInt8 := dkwX7_feed_4 ++ dktX7_feed_5
def dkwX7_feed_3 : List UInt8 := [167, 0, 5, 21, 5, 54, 7, 42, 180, 0, 63, 42, 180, 0, 153, 21, 7, 16, 24, 16, 8, 21, 6, 7]
abbrev dktX7_feed_3 : List UInt8 := dkwX7_feed_3 ++ dktX7_feed_4
def dkwX7_feed_2 : List UInt8 := [28, 167, 0, 28, 21, 6, 16, 12, 162, 0, 7, 29, 167, 0, 17, 21, 6, 16, 16, 162, 0, 8, 21, 4]
abbrev dktX7_feed_2 : List UInt8 := dkwX7_feed_2 ++ dktX7_feed_3
def dkwX7_feed_1 : List UInt8 := [21, 6, 16, 20, 162, 0, 93, 21, 6, 7, 162, 0, 7, 27, 167, 0, 39, 21, 6, 16, 8, 162, 0, 7]
abbrev dktX7_feed_1 : List UInt8 := dkwX7_feed_1 ++ dktX7_feed_2
def dkwX7_feed_0 : List UInt8 := [42, 3, 181, 0, 143, 42, 180, 0, 153, 16, 20, 96, 17, 2, 88, 164, 0, 5, 2, 172, 3, 54, 6]
abbrev dktX7_feed_0 : List UInt8 := dkwX7_feed_0 ++ dktX7_feed_1
theorem dksX7_feed_0 : cX7_feed.data.toList.drop 0 = dktX7_feed_0 := by decide +kernel
theorem dksX7_feed_1 : cX7_feed.data.toList.drop 23 = dktX7_feed_1 := dk_seg dksX7_feed_0 23 rfl rfl
theorem dksX7_feed_2 : cX7_feed.data.toList.drop 47 = dktX7_feed_2 := dk_seg dksX7_feed_1 24 rfl rfl
theorem dksX7_feed_3 : cX7_feed.data.toList.drop 71 = dktX7_feed_3 := dk_seg dksX7_feed_2 24 rfl rfl
theorem dksX7_feed_4 : cX7_feed.data.toList.drop 95 = dktX7_feed_4 := dk_seg dksX7_feed_3 24 rfl rfl
theorem dksX7_feed_5 : cX7_feed.data.toList.drop 117 = dktX7_feed_5 := dk_seg dksX7_feed_4 22 rfl rfl
theorem dX7_feed_0 : decode cX7_feed 0 = .ok (.aload_n 0, 1) := dk_42 (dk_at dksX7_feed_0 0 rfl rfl)
theorem dX7_feed_1 : decode cX7_feed 1 = .ok (.iconst 0, 1) := dk_3 (dk_at dksX7_feed_0 1 rfl rfl)
theorem dX7_feed_2 : decode cX7_feed 2 = .ok (.putfield 143, 3) := dk_181 0 143 (dk_at dksX7_feed_0 2 rfl rfl)
theorem dX7_feed_5 : decode cX7_feed 5 = .ok (.aload_n 0, 1) := dk_42 (dk_at dksX7_feed_0 5 rfl rfl)
theorem dX7_feed_6 : decode cX7_feed 6 = .ok (.getfield 153, 3) := dk_180 0 153 (dk_at dksX7_feed_0 6 rfl rfl)
theorem dX7_feed_9 : decode cX7_feed 9 = .ok (.bipush 20, 2) := dk_16 20 (dk_at dksX7_feed_0 9 rfl rfl)
theorem dX7_feed_11 : decode cX7_feed 11 = .ok (.iadd, 1) := dk_96 (dk_at dksX7_feed_0 11 rfl rfl)
theorem dX7_feed_12 : decode cX7_feed 12 = .ok (.sipush 600, 3) := dk_17 2 88 (dk_at dksX7_feed_0 12 rfl rfl)
theorem dX7_feed_15 : decode cX7_feed 15 = .ok (.if_icmp .le 5, 3) := dk_164 0 5 (dk_at dksX7_feed_0 15 rfl rfl)
theorem dX7_feed_18 : decode cX7_feed 18 = .ok (.iconst (-1), 1) := dk_2 (dk_at dksX7_feed_0 18 rfl rfl)
theorem dX7_feed_19 : decode cX7_feed 19 = .ok (.ireturn, 1) := dk_172 (dk_at dksX7_feed_0 19 rfl rfl)
theorem dX7_feed_20 : decode cX7_feed 20 = .ok (.iconst 0, 1) := dk_3 (dk_at dksX7_feed_0 20 rfl rfl)
theorem dX7_feed_21 : decode cX7_feed 21 = .ok (.istore 6, 2) := dk_54 6 (dk_at dksX7_feed_0 21 rfl rfl)
theorem dX7_feed_23 : decode cX7_feed 23 = .ok (.iload 6, 2) := dk_21 6 (dk_at dksX7_feed_1 0 rfl rfl)
theorem dX7_feed_25 : decode cX7_feed 25 = .ok (.bipush 20, 2) := dk_16 20 (dk_at dksX7_feed_1 2 rfl rfl)
theorem dX7_feed_27 : decode cX7_feed 27 = .ok (.if_icmp .ge 93, 3) := dk_162 0 93 (dk_at dksX7_feed_1 4 rfl rfl)
theorem dX7_feed_30 : decode cX7_feed 30 = .ok (.iload 6, 2) := dk_21 6 (dk_at dksX7_feed_1 7 rfl rfl)
theorem dX7_feed_32 : decode cX7_feed 32 = .ok (.iconst 4, 1) := dk_7 (dk_at dksX7_feed_1 9 rfl rfl)
theorem dX7_feed_33 : decode cX7_feed 33 = .ok (.if_icmp .ge 7, 3) := dk_162 0 7 (dk_at dksX7_feed_1 10 rfl rfl)
theorem dX7_feed_36 : decode cX7_feed 36 = .ok (.iload_n 1, 1) := dk_27 (dk_at dksX7_feed_1 13 rfl rfl)
theorem dX7_feed_37 : decode cX7_feed 37 = .ok (.goto 39, 3) := dk_167 0 39 (dk_at dksX7_feed_1 14 rfl rfl)
theorem dX7_feed_40 : decode cX7_feed 40 = .ok (.iload 6, 2) := dk_21 6 (dk_at dksX7_feed_1 17 rfl rfl)
theorem dX7_feed_42 : decode cX7_feed 42 = .ok (.bipush 8, 2) := dk_16 8 (dk_at dksX7_feed_1 19 rfl rfl)
theorem dX7_feed_44 : decode cX7_feed 44 = .ok (.if_icmp .ge 7, 3) := dk_162 0 7 (dk_at dksX7_feed_1 21 rfl rfl)
theorem dX7_feed_47 : decode cX7_feed 47 = .ok (.iload_n 2, 1) := dk_28 (dk_at dksX7_feed_2 0 rfl rfl)
theorem dX7_feed_48 : decode cX7_feed 48 = .ok (.goto 28, 3) := dk_167 0 28 (dk_at dksX7_feed_2 1 rfl rfl)
theorem dX7_feed_51 : decode cX7_feed 51 = .ok (.iload 6, 2) := dk_21 6 (dk_at dksX7_feed_2 4 rfl rfl)
theorem dX7_feed_53 : decode cX7_feed 53 = .ok (.bipush 12, 2) := dk_16 12 (dk_at dksX7_feed_2 6 rfl rfl)
theorem dX7_feed_55 : decode cX7_feed 55 = .ok (.if_icmp .ge 7, 3) := dk_162 0 7 (dk_at dksX7_feed_2 8 rfl rfl)
theorem dX7_feed_58 : decode cX7_feed 58 = .ok (.iload_n 3, 1) := dk_29 (dk_at dksX7_feed_2 11 rfl rfl)
theorem dX7_feed_59 : decode cX7_feed 59 = .ok (.goto 17, 3) := dk_167 0 17 (dk_at dksX7_feed_2 12 rfl rfl)
theorem dX7_feed_62 : decode cX7_feed 62 = .ok (.iload 6, 2) := dk_21 6 (dk_at dksX7_feed_2 15 rfl rfl)
theorem dX7_feed_64 : decode cX7_feed 64 = .ok (.bipush 16, 2) := dk_16 16 (dk_at dksX7_feed_2 17 rfl rfl)
theorem dX7_feed_66 : decode cX7_feed 66 = .ok (.if_icmp .ge 8, 3) := dk_162 0 8 (dk_at dksX7_feed_2 19 rfl rfl)
theorem dX7_feed_69 : decode cX7_feed 69 = .ok (.iload 4, 2) := dk_21 4 (dk_at dksX7_feed_2 22 rfl rfl)
theorem dX7_feed_71 : decode cX7_feed 71 = .ok (.goto 5, 3) := dk_167 0 5 (dk_at dksX7_feed_3 0 rfl rfl)
theorem dX7_feed_74 : decode cX7_feed 74 = .ok (.iload 5, 2) := dk_21 5 (dk_at dksX7_feed_3 3 rfl rfl)
theorem dX7_feed_76 : decode cX7_feed 76 = .ok (.istore 7, 2) := dk_54 7 (dk_at dksX7_feed_3 5 rfl rfl)
theorem dX7_feed_78 : decode cX7_feed 78 = .ok (.aload_n 0, 1) := dk_42 (dk_at dksX7_feed_3 7 rfl rfl)
theorem dX7_feed_79 : decode cX7_feed 79 = .ok (.getfield 63, 3) := dk_180 0 63 (dk_at dksX7_feed_3 8 rfl rfl)
theorem dX7_feed_82 : decode cX7_feed 82 = .ok (.aload_n 0, 1) := dk_42 (dk_at dksX7_feed_3 11 rfl rfl)
theorem dX7_feed_83 : decode cX7_feed 83 = .ok (.getfield 153, 3) := dk_180 0 153 (dk_at dksX7_feed_3 12 rfl rfl)
theorem dX7_feed_86 : decode cX7_feed 86 = .ok (.iload 7, 2) := dk_21 7 (dk_at dksX7_feed_3 15 rfl rfl)
theorem dX7_feed_88 : decode cX7_feed 88 = .ok (.bipush 24, 2) := dk_16 24 (dk_at dksX7_feed_3 17 rfl rfl)
theorem dX7_feed_90 : decode cX7_feed 90 = .ok (.bipush 8, 2) := dk_16 8 (dk_at dksX7_feed_3 19 rfl rfl)
theorem dX7_feed_92 : decode cX7_feed 92 = .ok (.iload 6, 2) := dk_21 6 (dk_at dksX7_feed_3 21 rfl rfl)
theorem dX7_feed_94 : decode cX7_feed 94 = .ok (.iconst 4, 1) := dk_7 (dk_at dksX7_feed_3 23 rfl rfl)
theorem dX7_feed_95 : decode cX7_feed 95 = .ok (.irem, 1) := dk_112 (dk_at dksX7_feed_4 0 rfl rfl)
theorem dX7_feed_96 : decode cX7_feed 96 = .ok (.imul, 1) := dk_104 (dk_at dksX7_feed_4 1 rfl rfl)
theorem dX7_feed_97 : decode cX7_feed 97 = .ok (.isub, 1) := dk_100 (dk_at dksX7_feed_4 2 rfl rfl)
theorem dX7_feed_98 : decode cX7_feed 98 = .ok (.ishr, 1) := dk_122 (dk_at dksX7_feed_4 3 rfl rfl)
theorem dX7_feed_99 : decode cX7_feed 99 = .ok (.sipush 255, 3) := dk_17 0 255 (dk_at dksX7_feed_4 4 rfl rfl)
theorem dX7_feed_102 : decode cX7_feed 102 = .ok (.iand, 1) := dk_126 (dk_at dksX7_feed_4 7 rfl rfl)
theorem dX7_feed_103 : decode cX7_feed 103 = .ok (.iastore, 1) := dk_79 (dk_at dksX7_feed_4 8 rfl rfl)
theorem dX7_feed_104 : decode cX7_feed 104 = .ok (.aload_n 0, 1) := dk_42 (dk_at dksX7_feed_4 9 rfl rfl)
theorem dX7_feed_105 : decode cX7_feed 105 = .ok (.dup, 1) := dk_89 (dk_at dksX7_feed_4 10 rfl rfl)
theorem dX7_feed_106 : decode cX7_feed 106 = .ok (.getfield 153, 3) := dk_180 0 153 (dk_at dksX7_feed_4 11 rfl rfl)
theorem dX7_feed_109 : decode cX7_feed 109 = .ok (.iconst 1, 1) := dk_4 (dk_at dksX7_feed_4 14 rfl rfl)
theorem dX7_feed_110 : decode cX7_feed 110 = .ok (.iadd, 1) := dk_96 (dk_at dksX7_feed_4 15 rfl rfl)
theorem dX7_feed_111 : decode cX7_feed 111 = .ok (.putfield 153, 3) := dk_181 0 153 (dk_at dksX7_feed_4 16 rfl rfl)
theorem dX7_feed_114 : decode cX7_feed 114 = .ok (.iinc 6 1, 3) := dk_132 6 1 (dk_at dksX7_feed_4 19 rfl rfl)
theorem dX7_feed_117 : decode cX7_feed 117 = .ok (.goto (-94), 3) := dk_167 255 162 (dk_at dksX7_feed_5 0 rfl rfl)
theorem dX7_feed_120 : decode cX7_feed 120 = .ok (.aload_n 0, 1) := dk_42 (dk_at dksX7_feed_5 3 rfl rfl)
theorem dX7_feed_121 : decode cX7_feed 121 = .ok (.getfield 153, 3) := dk_180 0 153 (dk_at dksX7_feed_5 4 rfl rfl)
theorem dX7_feed_124 : decode cX7_feed 124 = .ok (.ireturn, 1) := dk_172 (dk_at dksX7_feed_5 7 rfl rfl)
abbrev cX7_town : ByteArray := prog_20_method_30_code
def yX7_town : MethodName := ⟨RX7, "town", "(I)I"⟩
def dkwX7_town_6 : List UInt8 := [42, 180, 0, 195, 172, 42, 182, 1, 19, 3, 172]
abbrev dktX7_town_6 : List UInt8 := dkwX7_town_6 ++ []
def dkwX7_town_5 : List UInt8 := [180, 0, 195, 153, 0, 26, 42, 42, 180, 0, 198, 181, 0, 66, 42, 180, 0, 60, 3, 92, 46, 4, 96, 79]
abbrev dktX7_town_5 : List UInt8 := dkwX7_town_5 ++ dktX7_town_6
def dkwX7_town_4 : List UInt8 := [42, 180, 0, 195, 154, 0, 19, 42, 180, 0, 169, 153, 0, 12, 42, 28, 182, 1, 16, 61, 167, 255, 236, 42]
abbrev dktX7_town_4 : List UInt8 := dkwX7_town_4 ++ dktX7_town_5
def dkwX7_town_3 : List UInt8 := [28, 5, 160, 0, 8, 16, 100, 167, 0, 4, 3, 79, 132, 2, 1, 167, 255, 219, 42, 182, 0, 220, 3, 61]
abbrev dktX7_town_3 : List UInt8 := dkwX7_town_3 ++ dktX7_town_4
def dkwX7_town_2 : List UInt8 := [3, 61, 28, 7, 162, 0, 38, 42, 180, 0, 42, 7, 28, 96, 28, 4, 160, 0, 8, 16, 9, 167, 0, 14]
abbrev dktX7_town_2 : List UInt8 := dkwX7_town_2 ++ dktX7_town_3
def dkwX7_town_1 : List UInt8 := [3, 181, 0, 153, 42, 27, 181, 0, 156, 42, 3, 181, 0, 159, 42, 3, 181, 0, 195, 42, 2, 181, 0, 66]
abbrev dktX7_town_1 : List UInt8 := dkwX7_town_1 ++ dktX7_town_2
def dkwX7_town_0 : List UInt8 := [42, 3, 181, 0, 143, 27, 155, 0, 11, 27, 42, 180, 0, 153, 164, 0, 9, 42, 4, 182, 1, 13, 172, 42]
abbrev dktX7_town_0 : List UInt8 := dkwX7_town_0 ++ dktX7_town_1
theorem dksX7_town_0 : cX7_town.data.toList.drop 0 = dktX7_town_0 := by decide +kernel
theorem dksX7_town_1 : cX7_town.data.toList.drop 24 = dktX7_town_1 := dk_seg dksX7_town_0 24 rfl rfl
theorem dksX7_town_2 : cX7_town.data.toList.drop 48 = dktX7_town_2 := dk_seg dksX7_town_1 24 rfl rfl
theorem dksX7_town_3 : cX7_town.data.toList.drop 72 = dktX7_town_3 := dk_seg dksX7_town_2 24 rfl rfl
theorem dksX7_town_4 : cX7_town.data.toList.drop 96 = dktX7_town_4 := dk_seg dksX7_town_3 24 rfl rfl
theorem dksX7_town_5 : cX7_town.data.toList.drop 120 = dktX7_town_5 := dk_seg dksX7_town_4 24 rfl rfl
theorem dksX7_town_6 : cX7_town.data.toList.drop 144 = dktX7_town_6 := dk_seg dksX7_town_5 24 rfl rfl
theorem dX7_town_0 : decode cX7_town 0 = .ok (.aload_n 0, 1) := dk_42 (dk_at dksX7_town_0 0 rfl rfl)
theorem dX7_town_1 : decode cX7_town 1 = .ok (.iconst 0, 1) := dk_3 (dk_at dksX7_town_0 1 rfl rfl)
theorem dX7_town_2 : decode cX7_town 2 = .ok (.putfield 143, 3) := dk_181 0 143 (dk_at dksX7_town_0 2 rfl rfl)
theorem dX7_town_5 : decode cX7_town 5 = .ok (.iload_n 1, 1) := dk_27 (dk_at dksX7_town_0 5 rfl rfl)
theorem dX7_town_6 : decode cX7_town 6 = .ok (.ifCond .lt 11, 3) := dk_155 0 11 (dk_at dksX7_town_0 6 rfl rfl)
theorem dX7_town_9 : decode cX7_town 9 = .ok (.iload_n 1, 1) := dk_27 (dk_at dksX7_town_0 9 rfl rfl)
theorem dX7_town_10 : decode cX7_town 10 = .ok (.aload_n 0, 1) := dk_42 (dk_at dksX7_town_0 10 rfl rfl)
theorem dX7_town_11 : decode cX7_town 11 = .ok (.getfield 153, 3) := dk_180 0 153 (dk_at dksX7_town_0 11 rfl rfl)
theorem dX7_town_14 : decode cX7_town 14 = .ok (.if_icmp .le 9, 3) := dk_164 0 9 (dk_at dksX7_town_0 14 rfl rfl)
theorem dX7_town_17 : decode cX7_town 17 = .ok (.aload_n 0, 1) := dk_42 (dk_at dksX7_town_0 17 rfl rfl)
theorem dX7_town_18 : decode cX7_town 18 = .ok (.iconst 1, 1) := dk_4 (dk_at dksX7_town_0 18 rfl rfl)
theorem dX7_town_19 : decode cX7_town 19 = .ok (.invokevirtual 269, 3) := dk_182 1 13 (dk_at dksX7_town_0 19 rfl rfl)
theorem dX7_town_22 : decode cX7_town 22 = .ok (.ireturn, 1) := dk_172 (dk_at dksX7_town_0 22 rfl rfl)
theorem dX7_town_23 : decode cX7_town 23 = .ok (.aload_n 0, 1) := dk_42 (dk_at dksX7_town_0 23 rfl rfl)
theorem dX7_town_24 : decode cX7_town 24 = .ok (.iconst 0, 1) := dk_3 (dk_at dksX7_town_1 0 rfl rfl)
theorem dX7_town_25 : decode cX7_town 25 = .ok (.putfield 153, 3) := dk_181 0 153 (dk_at dksX7_town_1 1 rfl rfl)
theorem dX7_town_28 : decode cX7_town 28 = .ok (.aload_n 0, 1) := dk_42 (dk_at dksX7_town_1 4 rfl rfl)
theorem dX7_town_29 : decode cX7_town 29 = .ok (.iload_n 1, 1) := dk_27 (dk_at dksX7_town_1 5 rfl rfl)
theorem dX7_town_30 : decode cX7_town 30 = .ok (.putfield 156, 3) := dk_181 0 156 (dk_at dksX7_town_1 6 rfl rfl)
theorem dX7_town_33 : decode cX7_town 33 = .ok (.aload_n 0, 1) := dk_42 (dk_at dksX7_town_1 9 rfl rfl)
theorem dX7_town_34 : decode cX7_town 34 = .ok (.iconst 0, 1) := dk_3 (dk_at dksX7_town_1 10 rfl rfl)
theorem dX7_town_35 : decode cX7_town 35 = .ok (.putfield 159, 3) := dk_181 0 159 (dk_at dksX7_town_1 11 rfl rfl)
theorem dX7_town_38 : decode cX7_town 38 = .ok (.aload_n 0, 1) := dk_42 (dk_at dksX7_town_1 14 rfl rfl)
theorem dX7_town_39 : decode cX7_town 39 = .ok (.iconst 0, 1) := dk_3 (dk_at dksX7_town_1 15 rfl rfl)
theorem dX7_town_40 : decode cX7_town 40 = .ok (.putfield 195, 3) := dk_181 0 195 (dk_at dksX7_town_1 16 rfl rfl)
theorem dX7_town_43 : decode cX7_town 43 = .ok (.aload_n 0, 1) := dk_42 (dk_at dksX7_town_1 19 rfl rfl)
theorem dX7_town_44 : decode cX7_town 44 = .ok (.iconst (-1), 1) := dk_2 (dk_at dksX7_town_1 20 rfl rfl)
theorem dX7_town_45 : decode cX7_town 45 = .ok (.putfield 66, 3) := dk_181 0 66 (dk_at dksX7_town_1 21 rfl rfl)
theorem dX7_town_48 : decode cX7_town 48 = .ok (.iconst 0, 1) := dk_3 (dk_at dksX7_town_2 0 rfl rfl)
theorem dX7_town_49 : decode cX7_town 49 = .ok (.istore_n 2, 1) := dk_61 (dk_at dksX7_town_2 1 rfl rfl)
theorem dX7_town_50 : decode cX7_town 50 = .ok (.iload_n 2, 1) := dk_28 (dk_at dksX7_town_2 2 rfl rfl)
theorem dX7_town_51 : decode cX7_town 51 = .ok (.iconst 4, 1) := dk_7 (dk_at dksX7_town_2 3 rfl rfl)
theorem dX7_town_52 : decode cX7_town 52 = .ok (.if_icmp .ge 38, 3) := dk_162 0 38 (dk_at dksX7_town_2 4 rfl rfl)
theorem dX7_town_55 : decode cX7_town 55 = .ok (.aload_n 0, 1) := dk_42 (dk_at dksX7_town_2 7 rfl rfl)
theorem dX7_town_56 : decode cX7_town 56 = .ok (.getfield 42, 3) := dk_180 0 42 (dk_at dksX7_town_2 8 rfl rfl)
theorem dX7_town_59 : decode cX7_town 59 = .ok (.iconst 4, 1) := dk_7 (dk_at dksX7_town_2 11 rfl rfl)
theorem dX7_town_60 : decode cX7_town 60 = .ok (.iload_n 2, 1) := dk_28 (dk_at dksX7_town_2 12 rfl rfl)
theorem dX7_town_61 : decode cX7_town 61 = .ok (.iadd, 1) := dk_96 (dk_at dksX7_town_2 13 rfl rfl)
theorem dX7_town_62 : decode cX7_town 62 = .ok (.iload_n 2, 1) := dk_28 (dk_at dksX7_town_2 14 rfl rfl)
theorem dX7_town_63 : decode cX7_town 63 = .ok (.iconst 1, 1) := dk_4 (dk_at dksX7_town_2 15 rfl rfl)
theorem dX7_town_64 : decode cX7_town 64 = .ok (.if_icmp .ne 8, 3) := dk_160 0 8 (dk_at dksX7_town_2 16 rfl rfl)
theorem dX7_town_67 : decode cX7_town 67 = .ok (.bipush 9, 2) := dk_16 9 (dk_at dksX7_town_2 19 rfl rfl)
theorem dX7_town_69 : decode cX7_town 69 = .ok (.goto 14, 3) := dk_167 0 14 (dk_at dksX7_town_2 21 rfl rfl)
theorem dX7_town_72 : decode cX7_town 72 = .ok (.iload_n 2, 1) := dk_28 (dk_at dksX7_town_3 0 rfl rfl)
theorem dX7_town_73 : decode cX7_town 73 = .ok (.iconst 2, 1) := dk_5 (dk_at dksX7_town_3 1 rfl rfl)
theorem dX7_town_74 : decode cX7_town 74 = .ok (.if_icmp .ne 8, 3) := dk_160 0 8 (dk_at dksX7_town_3 2 rfl rfl)
theorem dX7_town_77 : decode cX7_town 77 = .ok (.bipush 100, 2) := dk_16 100 (dk_at dksX7_town_3 5 rfl rfl)
theorem dX7_town_79 : decode cX7_town 79 = .ok (.goto 4, 3) := dk_167 0 4 (dk_at dksX7_town_3 7 rfl rfl)
theorem dX7_town_82 : decode cX7_town 82 = .ok (.iconst 0, 1) := dk_3 (dk_at dksX7_town_3 10 rfl rfl)
theorem dX7_town_83 : decode cX7_town 83 = .ok (.iastore, 1) := dk_79 (dk_at dksX7_town_3 11 rfl rfl)
theorem dX7_town_84 : decode cX7_town 84 = .ok (.iinc 2 1, 3) := dk_132 2 1 (dk_at dksX7_town_3 12 rfl rfl)
theorem dX7_town_87 : decode cX7_town 87 = .ok (.goto (-37), 3) := dk_167 255 219 (dk_at dksX7_town_3 15 rfl rfl)
theorem dX7_town_90 : decode cX7_town 90 = .ok (.aload_n 0, 1) := dk_42 (dk_at dksX7_town_3 18 rfl rfl)
theorem dX7_town_91 : decode cX7_town 91 = .ok (.invokevirtual 220, 3) := dk_182 0 220 (dk_at dksX7_town_3 19 rfl rfl)
theorem dX7_town_94 : decode cX7_town 94 = .ok (.iconst 0, 1) := dk_3 (dk_at dksX7_town_3 22 rfl rfl)
theorem dX7_town_95 : decode cX7_town 95 = .ok (.istore_n 2, 1) := dk_61 (dk_at dksX7_town_3 23 rfl rfl)
theorem dX7_town_96 : decode cX7_town 96 = .ok (.aload_n 0, 1) := dk_42 (dk_at dksX7_town_4 0 rfl rfl)
theorem dX7_town_97 : decode cX7_town 97 = .ok (.getfield 195, 3) := dk_180 0 195 (dk_at dksX7_town_4 1 rfl rfl)
theorem dX7_town_100 : decode cX7_town 100 = .ok (.ifCond .ne 19, 3) := dk_154 0 19 (dk_at dksX7_town_4 4 rfl rfl)
theorem dX7_town_103 : decode cX7_town 103 = .ok (.aload_n 0, 1) := dk_42 (dk_at dksX7_town_4 7 rfl rfl)
theorem dX7_town_104 : decode cX7_town 104 = .ok (.getfield 169, 3) := dk_180 0 169 (dk_at dksX7_town_4 8 rfl rfl)
theorem dX7_town_107 : decode cX7_town 107 = .ok (.ifCond .eq 12, 3) := dk_153 0 12 (dk_at dksX7_town_4 11 rfl rfl)
theorem dX7_town_110 : decode cX7_town 110 = .ok (.aload_n 0, 1) := dk_42 (dk_at dksX7_town_4 14 rfl rfl)
theorem dX7_town_111 : decode cX7_town 111 = .ok (.iload_n 2, 1) := dk_28 (dk_at dksX7_town_4 15 rfl rfl)
theorem dX7_town_112 : decode cX7_town 112 = .ok (.invokevirtual 272, 3) := dk_182 1 16 (dk_at dksX7_town_4 16 rfl rfl)
theorem dX7_town_115 : decode cX7_town 115 = .ok (.istore_n 2, 1) := dk_61 (dk_at dksX7_town_4 19 rfl rfl)
theorem dX7_town_116 : decode cX7_town 116 = .ok (.goto (-20), 3) := dk_167 255 236 (dk_at dksX7_town_4 20 rfl rfl)
theorem dX7_town_119 : decode cX7_town 119 = .ok (.aload_n 0, 1) := dk_42 (dk_at dksX7_town_4 23 rfl rfl)
theorem dX7_town_120 : decode cX7_town 120 = .ok (.getfield 195, 3) := dk_180 0 195 (dk_at dksX7_town_5 0 rfl rfl)
theorem dX7_town_123 : decode cX7_town 123 = .ok (.ifCond .eq 26, 3) := dk_153 0 26 (dk_at dksX7_town_5 3 rfl rfl)
theorem dX7_town_126 : decode cX7_town 126 = .ok (.aload_n 0, 1) := dk_42 (dk_at dksX7_town_5 6 rfl rfl)
theorem dX7_town_127 : decode cX7_town 127 = .ok (.aload_n 0, 1) := dk_42 (dk_at dksX7_town_5 7 rfl rfl)
theorem dX7_town_128 : decode cX7_town 128 = .ok (.getfield 198, 3) := dk_180 0 198 (dk_at dksX7_town_5 8 rfl rfl)
theorem dX7_town_131 : decode cX7_town 131 = .ok (.putfield 66, 3) := dk_181 0 66 (dk_at dksX7_town_5 11 rfl rfl)
theorem dX7_town_134 : decode cX7_town 134 = .ok (.aload_n 0, 1) := dk_42 (dk_at dksX7_town_5 14 rfl rfl)
theorem dX7_town_135 : decode cX7_town 135 = .ok (.getfield 60, 3) := dk_180 0 60 (dk_at dksX7_town_5 15 rfl rfl)
theorem dX7_town_138 : decode cX7_town 138 = .ok (.iconst 0, 1) := dk_3 (dk_at dksX7_town_5 18 rfl rfl)
theorem dX7_town_139 : decode cX7_town 139 = .ok (.dup2, 1) := dk_92 (dk_at dksX7_town_5 19 rfl rfl)
theorem dX7_town_140 : decode cX7_town 140 = .ok (.iaload, 1) := dk_46 (dk_at dksX7_town_5 20 rfl rfl)
theorem dX7_town_141 : decode cX7_town 141 = .ok (.iconst 1, 1) := dk_4 (dk_at dksX7_town_5 21 rfl rfl)
theorem dX7_town_142 : decode cX7_town 142 = .ok (.iadd, 1) := dk_96 (dk_at dksX7_town_5 22 rfl rfl)
theorem dX7_town_143 : decode cX7_town 143 = .ok (.iastore, 1) := dk_79 (dk_at dksX7_town_5 23 rfl rfl)
theorem dX7_town_144 : decode cX7_town 144 = .ok (.aload_n 0, 1) := dk_42 (dk_at dksX7_town_6 0 rfl rfl)
theorem dX7_town_145 : decode cX7_town 145 = .ok (.getfield 195, 3) := dk_180 0 195 (dk_at dksX7_town_6 1 rfl rfl)
theorem dX7_town_148 : decode cX7_town 148 = .ok (.ireturn, 1) := dk_172 (dk_at dksX7_town_6 4 rfl rfl)
theorem dX7_town_149 : decode cX7_town 149 = .ok (.aload_n 0, 1) := dk_42 (dk_at dksX7_town_6 5 rfl rfl)
theorem dX7_town_150 : decode cX7_town 150 = .ok (.invokevirtual 275, 3) := dk_182 1 19 (dk_at dksX7_town_6 6 rfl rfl)
theorem dX7_town_153 : decode cX7_town 153 = .ok (.iconst 0, 1) := dk_3 (dk_at dksX7_town_6 9 rfl rfl)
theorem dX7_town_154 : decode cX7_town 154 = .ok (.ireturn, 1) := dk_172 (dk_at dksX7_town_6 10 rfl rfl)
abbrev cX7_fail : ByteArray := prog_20_method_3_code
def yX7_fail : MethodName := ⟨RX7, "fail", "(I)I"⟩
def dkwX7_fail_0 : List UInt8 := [42, 27, 181, 0, 143, 3, 172]
abbrev dktX7_fail_0 : List UInt8 := dkwX7_fail_0 ++ []
theorem dksX7_fail_0 : cX7_fail.data.toList.drop 0 = dktX7_fail_0 := by decide +kernel
theorem dX7_fail_0 : decode cX7_fail 0 = .ok (.aload_n 0, 1) := dk_42 (dk_at dksX7_fail_0 0 rfl rfl)
theorem dX7_fail_1 : decode cX7_fail 1 = .ok (.iload_n 1, 1) := dk_27 (dk_at dksX7_fail_0 1 rfl rfl)
theorem dX7_fail_2 : decode cX7_fail 2 = .ok (.putfield 143, 3) := dk_181 0 143 (dk_at dksX7_fail_0 2 rfl rfl)
theorem dX7_fail_5 : decode cX7_fail 5 = .ok (.iconst 0, 1) := dk_3 (dk_at dksX7_fail_0 5 rfl rfl)
theorem dX7_fail_6 : decode cX7_fail 6 = .ok (.ireturn, 1) := dk_172 (dk_at dksX7_fail_0 6 rfl rfl)
abbrev cX7_stepOn : ByteArray := prog_20_method_14_code
def yX7_stepOn : MethodName := ⟨RX7, "stepOn", "()V"⟩
def dkwX7_stepOn_9 : List UInt8 := [181, 0, 169, 42, 42, 180, 0, 159, 181, 0, 192, 177]
abbrev dktX7_stepOn_9 : List UInt8 := dkwX7_stepOn_9 ++ []
def dkwX7_stepOn_8 : List UInt8 := [42, 89, 180, 0, 159, 4, 96, 181, 0, 159, 42, 27, 184, 0, 189, 153, 0, 7, 6, 167, 0, 4, 7]
abbrev dktX7_stepOn_8 : List UInt8 := dkwX7_stepOn_8 ++ dktX7_stepOn_9
def dkwX7_stepOn_7 : List UInt8 := [181, 0, 179, 42, 89, 180, 0, 159, 4, 96, 181, 0, 159, 167, 255, 204, 42, 5, 181, 0, 169, 167, 0, 29]
abbrev dktX7_stepOn_7 : List UInt8 := dkwX7_stepOn_7 ++ dktX7_stepOn_8
def dkwX7_stepOn_6 : List UInt8 := [18, 182, 16, 10, 42, 180, 0, 179, 104, 42, 42, 180, 0, 159, 182, 0, 162, 96, 16, 48, 100, 184, 0, 183]
abbrev dktX7_stepOn_6 : List UInt8 := dkwX7_stepOn_6 ++ dktX7_stepOn_7
def dkwX7_stepOn_5 : List UInt8 := [153, 0, 71, 42, 3, 181, 0, 179, 42, 42, 180, 0, 159, 182, 0, 162, 184, 0, 176, 153, 0, 44, 42]
abbrev dktX7_stepOn_5 : List UInt8 := dkwX7_stepOn_5 ++ dktX7_stepOn_6
def dkwX7_stepOn_4 : List UInt8 := [180, 0, 159, 4, 96, 181, 0, 159, 167, 255, 232, 42, 4, 181, 0, 169, 167, 0, 104, 27, 184, 0, 176]
abbrev dktX7_stepOn_4 : List UInt8 := dkwX7_stepOn_4 ++ dktX7_stepOn_5
def dkwX7_stepOn_3 : List UInt8 := [184, 0, 172, 153, 0, 38, 42, 42, 180, 0, 159, 182, 0, 162, 184, 0, 172, 153, 0, 16, 42, 89]
abbrev dktX7_stepOn_3 : List UInt8 := dkwX7_stepOn_3 ++ dktX7_stepOn_4
def dkwX7_stepOn_2 : List UInt8 := [42, 42, 180, 0, 159, 182, 0, 162, 60, 27, 2, 160, 0, 11, 42, 3, 181, 0, 169, 167, 0, 146, 27]
abbrev dktX7_stepOn_2 : List UInt8 := dkwX7_stepOn_2 ++ dktX7_stepOn_3
def dkwX7_stepOn_1 : List UInt8 := [160, 0, 16, 42, 89, 180, 0, 159, 4, 96, 181, 0, 159, 167, 255, 220, 42, 42, 180, 0, 159, 181, 0, 166]
abbrev dktX7_stepOn_1 : List UInt8 := dkwX7_stepOn_1 ++ dktX7_stepOn_2
def dkwX7_stepOn_0 : List UInt8 := [42, 42, 180, 0, 159, 182, 0, 162, 16, 32, 159, 0, 16, 42, 42, 180, 0, 159, 182, 0, 162, 16, 10]
abbrev dktX7_stepOn_0 : List UInt8 := dkwX7_stepOn_0 ++ dktX7_stepOn_1
theorem dksX7_stepOn_0 : cX7_stepOn.data.toList.drop 0 = dktX7_stepOn_0 := by decide +kernel
theorem dksX7_stepOn_1 : cX7_stepOn.data.toList.drop 23 = dktX7_stepOn_1 := dk_seg dksX7_stepOn_0 23 rfl rfl
theorem dksX7_stepOn_2 : cX7_stepOn.data.toList.drop 47 = dktX7_stepOn_2 := dk_seg dksX7_stepOn_1 24 rfl rfl
theorem dksX7_stepOn_3 : cX7_stepOn.data.toList.drop 70 = dktX7_stepOn_3 := dk_seg dksX7_stepOn_2 23 rfl rfl
theorem dksX7_stepOn_4 : cX7_stepOn.data.toList.drop 92 = dktX7_stepOn_4 := dk_seg dksX7_stepOn_3 22 rfl rfl
theorem dksX7_stepOn_5 : cX7_stepOn.data.toList.drop 115 = dktX7_stepOn_5 := dk_seg dksX7_stepOn_4 23 rfl rfl
theorem dksX7_stepOn_6 : cX7_stepOn.data.toList.drop 138 = dktX7_stepOn_6 := dk_seg dksX7_stepOn_5 23 rfl rfl
theorem dksX7_stepOn_7 : cX7_stepOn.data.toList.drop 162 = dktX7_stepOn_7 := dk_seg dksX7_stepOn_6 24 rfl rfl
theorem dksX7_stepOn_8 : cX7_stepOn.data.toList.drop 186 = dktX7_stepOn_8 := dk_seg dksX7_stepOn_7 24 rfl rfl
theorem dksX7_stepOn_9 : cX7_stepOn.data.toList.drop 209 = dktX7_stepOn_9 := dk_seg dksX7_stepOn_8 23 rfl rfl
theorem dX7_stepOn_0 : decode cX7_stepOn 0 = .ok (.aload_n 0, 1) := dk_42 (dk_at dksX7_stepOn_0 0 rfl rfl)
theorem dX7_stepOn_1 : decode cX7_stepOn 1 = .ok (.aload_n 0, 1) := dk_42 (dk_at dksX7_stepOn_0 1 rfl rfl)
theorem dX7_stepOn_2 : decode cX7_stepOn 2 = .ok (.getfield 159, 3) := dk_180 0 159 (dk_at dksX7_stepOn_0 2 rfl rfl)
theorem dX7_stepOn_5 : decode cX7_stepOn 5 = .ok (.invokevirtual 162, 3) := dk_182 0 162 (dk_at dksX7_stepOn_0 5 rfl rfl)
theorem dX7_stepOn_8 : decode cX7_stepOn 8 = .ok (.bipush 32, 2) := dk_16 32 (dk_at dksX7_stepOn_0 8 rfl rfl)
theorem dX7_stepOn_10 : decode cX7_stepOn 10 = .ok (.if_icmp .eq 16, 3) := dk_159 0 16 (dk_at dksX7_stepOn_0 10 rfl rfl)
theorem dX7_stepOn_13 : decode cX7_stepOn 13 = .ok (.aload_n 0, 1) := dk_42 (dk_at dksX7_stepOn_0 13 rfl rfl)
theorem dX7_stepOn_14 : decode cX7_stepOn 14 = .ok (.aload_n 0, 1) := dk_42 (dk_at dksX7_stepOn_0 14 rfl rfl)
theorem dX7_stepOn_15 : decode cX7_stepOn 15 = .ok (.getfield 159, 3) := dk_180 0 159 (dk_at dksX7_stepOn_0 15 rfl rfl)
theorem dX7_stepOn_18 : decode cX7_stepOn 18 = .ok (.invokevirtual 162, 3) := dk_182 0 162 (dk_at dksX7_stepOn_0 18 rfl rfl)
theorem dX7_stepOn_21 : decode cX7_stepOn 21 = .ok (.bipush 10, 2) := dk_16 10 (dk_at dksX7_stepOn_0 21 rfl rfl)
theorem dX7_stepOn_23 : decode cX7_stepOn 23 = .ok (.if_icmp .ne 16, 3) := dk_160 0 16 (dk_at dksX7_stepOn_1 0 rfl rfl)
theorem dX7_stepOn_26 : decode cX7_stepOn 26 = .ok (.aload_n 0, 1) := dk_42 (dk_at dksX7_stepOn_1 3 rfl rfl)
theorem dX7_stepOn_27 : decode cX7_stepOn 27 = .ok (.dup, 1) := dk_89 (dk_at dksX7_stepOn_1 4 rfl rfl)
theorem dX7_stepOn_28 : decode cX7_stepOn 28 = .ok (.getfield 159, 3) := dk_180 0 159 (dk_at dksX7_stepOn_1 5 rfl rfl)
theorem dX7_stepOn_31 : decode cX7_stepOn 31 = .ok (.iconst 1, 1) := dk_4 (dk_at dksX7_stepOn_1 8 rfl rfl)
theorem dX7_stepOn_32 : decode cX7_stepOn 32 = .ok (.iadd, 1) := dk_96 (dk_at dksX7_stepOn_1 9 rfl rfl)
theorem dX7_stepOn_33 : decode cX7_stepOn 33 = .ok (.putfield 159, 3) := dk_181 0 159 (dk_at dksX7_stepOn_1 10 rfl rfl)
theorem dX7_stepOn_36 : decode cX7_stepOn 36 = .ok (.goto (-36), 3) := dk_167 255 220 (dk_at dksX7_stepOn_1 13 rfl rfl)
theorem dX7_stepOn_39 : decode cX7_stepOn 39 = .ok (.aload_n 0, 1) := dk_42 (dk_at dksX7_stepOn_1 16 rfl rfl)
theorem dX7_stepOn_40 : decode cX7_stepOn 40 = .ok (.aload_n 0, 1) := dk_42 (dk_at dksX7_stepOn_1 17 rfl rfl)
theorem dX7_stepOn_41 : decode cX7_stepOn 41 = .ok (.getfield 159, 3) := dk_180 0 159 (dk_at dksX7_stepOn_1 18 rfl rfl)
theorem dX7_stepOn_44 : decode cX7_stepOn 44 = .ok (.putfield 166, 3) := dk_181 0 166 (dk_at dksX7_stepOn_1 21 rfl rfl)
theorem dX7_stepOn_47 : decode cX7_stepOn 47 = .ok (.aload_n 0, 1) := dk_42 (dk_at dksX7_stepOn_2 0 rfl rfl)
theorem dX7_stepOn_48 : decode cX7_stepOn 48 = .ok (.aload_n 0, 1) := dk_42 (dk_at dksX7_stepOn_2 1 rfl rfl)
theorem dX7_stepOn_49 : decode cX7_stepOn 49 = .ok (.getfield 159, 3) := dk_180 0 159 (dk_at dksX7_stepOn_2 2 rfl rfl)
theorem dX7_stepOn_52 : decode cX7_stepOn 52 = .ok (.invokevirtual 162, 3) := dk_182 0 162 (dk_at dksX7_stepOn_2 5 rfl rfl)
theorem dX7_stepOn_55 : decode cX7_stepOn 55 = .ok (.istore_n 1, 1) := dk_60 (dk_at dksX7_stepOn_2 8 rfl rfl)
theorem dX7_stepOn_56 : decode cX7_stepOn 56 = .ok (.iload_n 1, 1) := dk_27 (dk_at dksX7_stepOn_2 9 rfl rfl)
theorem dX7_stepOn_57 : decode cX7_stepOn 57 = .ok (.iconst (-1), 1) := dk_2 (dk_at dksX7_stepOn_2 10 rfl rfl)
theorem dX7_stepOn_58 : decode cX7_stepOn 58 = .ok (.if_icmp .ne 11, 3) := dk_160 0 11 (dk_at dksX7_stepOn_2 11 rfl rfl)
theorem dX7_stepOn_61 : decode cX7_stepOn 61 = .ok (.aload_n 0, 1) := dk_42 (dk_at dksX7_stepOn_2 14 rfl rfl)
theorem dX7_stepOn_62 : decode cX7_stepOn 62 = .ok (.iconst 0, 1) := dk_3 (dk_at dksX7_stepOn_2 15 rfl rfl)
theorem dX7_stepOn_63 : decode cX7_stepOn 63 = .ok (.putfield 169, 3) := dk_181 0 169 (dk_at dksX7_stepOn_2 16 rfl rfl)
theorem dX7_stepOn_66 : decode cX7_stepOn 66 = .ok (.goto 146, 3) := dk_167 0 146 (dk_at dksX7_stepOn_2 19 rfl rfl)
theorem dX7_stepOn_69 : decode cX7_stepOn 69 = .ok (.iload_n 1, 1) := dk_27 (dk_at dksX7_stepOn_2 22 rfl rfl)
theorem dX7_stepOn_70 : decode cX7_stepOn 70 = .ok (.invokestatic 172, 3) := dk_184 0 172 (dk_at dksX7_stepOn_3 0 rfl rfl)
theorem dX7_stepOn_73 : decode cX7_stepOn 73 = .ok (.ifCond .eq 38, 3) := dk_153 0 38 (dk_at dksX7_stepOn_3 3 rfl rfl)
theorem dX7_stepOn_76 : decode cX7_stepOn 76 = .ok (.aload_n 0, 1) := dk_42 (dk_at dksX7_stepOn_3 6 rfl rfl)
theorem dX7_stepOn_77 : decode cX7_stepOn 77 = .ok (.aload_n 0, 1) := dk_42 (dk_at dksX7_stepOn_3 7 rfl rfl)
theorem dX7_stepOn_78 : decode cX7_stepOn 78 = .ok (.getfield 159, 3) := dk_180 0 159 (dk_at dksX7_stepOn_3 8 rfl rfl)
theorem dX7_stepOn_81 : decode cX7_stepOn 81 = .ok (.invokevirtual 162, 3) := dk_182 0 162 (dk_at dksX7_stepOn_3 11 rfl rfl)
theorem dX7_stepOn_84 : decode cX7_stepOn 84 = .ok (.invokestatic 172, 3) := dk_184 0 172 (dk_at dksX7_stepOn_3 14 rfl rfl)
theorem dX7_stepOn_87 : decode cX7_stepOn 87 = .ok (.ifCond .eq 16, 3) := dk_153 0 16 (dk_at dksX7_stepOn_3 17 rfl rfl)
theorem dX7_stepOn_90 : decode cX7_stepOn 90 = .ok (.aload_n 0, 1) := dk_42 (dk_at dksX7_stepOn_3 20 rfl rfl)
theorem dX7_stepOn_91 : decode cX7_stepOn 91 = .ok (.dup, 1) := dk_89 (dk_at dksX7_stepOn_3 21 rfl rfl)
theorem dX7_stepOn_92 : decode cX7_stepOn 92 = .ok (.getfield 159, 3) := dk_180 0 159 (dk_at dksX7_stepOn_4 0 rfl rfl)
theorem dX7_stepOn_95 : decode cX7_stepOn 95 = .ok (.iconst 1, 1) := dk_4 (dk_at dksX7_stepOn_4 3 rfl rfl)
theorem dX7_stepOn_96 : decode cX7_stepOn 96 = .ok (.iadd, 1) := dk_96 (dk_at dksX7_stepOn_4 4 rfl rfl)
theorem dX7_stepOn_97 : decode cX7_stepOn 97 = .ok (.putfield 159, 3) := dk_181 0 159 (dk_at dksX7_stepOn_4 5 rfl rfl)
theorem dX7_stepOn_100 : decode cX7_stepOn 100 = .ok (.goto (-24), 3) := dk_167 255 232 (dk_at dksX7_stepOn_4 8 rfl rfl)
theorem dX7_stepOn_103 : decode cX7_stepOn 103 = .ok (.aload_n 0, 1) := dk_42 (dk_at dksX7_stepOn_4 11 rfl rfl)
theorem dX7_stepOn_104 : decode cX7_stepOn 104 = .ok (.iconst 1, 1) := dk_4 (dk_at dksX7_stepOn_4 12 rfl rfl)
theorem dX7_stepOn_105 : decode cX7_stepOn 105 = .ok (.putfield 169, 3) := dk_181 0 169 (dk_at dksX7_stepOn_4 13 rfl rfl)
theorem dX7_stepOn_108 : decode cX7_stepOn 108 = .ok (.goto 104, 3) := dk_167 0 104 (dk_at dksX7_stepOn_4 16 rfl rfl)
theorem dX7_stepOn_111 : decode cX7_stepOn 111 = .ok (.iload_n 1, 1) := dk_27 (dk_at dksX7_stepOn_4 19 rfl rfl)
theorem dX7_stepOn_112 : decode cX7_stepOn 112 = .ok (.invokestatic 176, 3) := dk_184 0 176 (dk_at dksX7_stepOn_4 20 rfl rfl)
theorem dX7_stepOn_115 : decode cX7_stepOn 115 = .ok (.ifCond .eq 71, 3) := dk_153 0 71 (dk_at dksX7_stepOn_5 0 rfl rfl)
theorem dX7_stepOn_118 : decode cX7_stepOn 118 = .ok (.aload_n 0, 1) := dk_42 (dk_at dksX7_stepOn_5 3 rfl rfl)
theorem dX7_stepOn_119 : decode cX7_stepOn 119 = .ok (.iconst 0, 1) := dk_3 (dk_at dksX7_stepOn_5 4 rfl rfl)
theorem dX7_stepOn_120 : decode cX7_stepOn 120 = .ok (.putfield 179, 3) := dk_181 0 179 (dk_at dksX7_stepOn_5 5 rfl rfl)
theorem dX7_stepOn_123 : decode cX7_stepOn 123 = .ok (.aload_n 0, 1) := dk_42 (dk_at dksX7_stepOn_5 8 rfl rfl)
theorem dX7_stepOn_124 : decode cX7_stepOn 124 = .ok (.aload_n 0, 1) := dk_42 (dk_at dksX7_stepOn_5 9 rfl rfl)
theorem dX7_stepOn_125 : decode cX7_stepOn 125 = .ok (.getfield 159, 3) := dk_180 0 159 (dk_at dksX7_stepOn_5 10 rfl rfl)
theorem dX7_stepOn_128 : decode cX7_stepOn 128 = .ok (.invokevirtual 162, 3) := dk_182 0 162 (dk_at dksX7_stepOn_5 13 rfl rfl)
theorem dX7_stepOn_131 : decode cX7_stepOn 131 = .ok (.invokestatic 176, 3) := dk_184 0 176 (dk_at dksX7_stepOn_5 16 rfl rfl)
theorem dX7_stepOn_134 : decode cX7_stepOn 134 = .ok (.ifCond .eq 44, 3) := dk_153 0 44 (dk_at dksX7_stepOn_5 19 rfl rfl)
theorem dX7_stepOn_137 : decode cX7_stepOn 137 = .ok (.aload_n 0, 1) := dk_42 (dk_at dksX7_stepOn_5 22 rfl rfl)
theorem dX7_stepOn_138 : decode cX7_stepOn 138 = .ok (.ldc 182, 2) := dk_18 182 (dk_at dksX7_stepOn_6 0 rfl rfl)
theorem dX7_stepOn_140 : decode cX7_stepOn 140 = .ok (.bipush 10, 2) := dk_16 10 (dk_at dksX7_stepOn_6 2 rfl rfl)
theorem dX7_stepOn_142 : decode cX7_stepOn 142 = .ok (.aload_n 0, 1) := dk_42 (dk_at dksX7_stepOn_6 4 rfl rfl)
theorem dX7_stepOn_143 : decode cX7_stepOn 143 = .ok (.getfield 179, 3) := dk_180 0 179 (dk_at dksX7_stepOn_6 5 rfl rfl)
theorem dX7_stepOn_146 : decode cX7_stepOn 146 = .ok (.imul, 1) := dk_104 (dk_at dksX7_stepOn_6 8 rfl rfl)
theorem dX7_stepOn_147 : decode cX7_stepOn 147 = .ok (.aload_n 0, 1) := dk_42 (dk_at dksX7_stepOn_6 9 rfl rfl)
theorem dX7_stepOn_148 : decode cX7_stepOn 148 = .ok (.aload_n 0, 1) := dk_42 (dk_at dksX7_stepOn_6 10 rfl rfl)
theorem dX7_stepOn_149 : decode cX7_stepOn 149 = .ok (.getfield 159, 3) := dk_180 0 159 (dk_at dksX7_stepOn_6 11 rfl rfl)
theorem dX7_stepOn_152 : decode cX7_stepOn 152 = .ok (.invokevirtual 162, 3) := dk_182 0 162 (dk_at dksX7_stepOn_6 14 rfl rfl)
theorem dX7_stepOn_155 : decode cX7_stepOn 155 = .ok (.iadd, 1) := dk_96 (dk_at dksX7_stepOn_6 17 rfl rfl)
theorem dX7_stepOn_156 : decode cX7_stepOn 156 = .ok (.bipush 48, 2) := dk_16 48 (dk_at dksX7_stepOn_6 18 rfl rfl)
theorem dX7_stepOn_158 : decode cX7_stepOn 158 = .ok (.isub, 1) := dk_100 (dk_at dksX7_stepOn_6 20 rfl rfl)
theorem dX7_stepOn_159 : decode cX7_stepOn 159 = .ok (.invokestatic 183, 3) := dk_184 0 183 (dk_at dksX7_stepOn_6 21 rfl rfl)
theorem dX7_stepOn_162 : decode cX7_stepOn 162 = .ok (.putfield 179, 3) := dk_181 0 179 (dk_at dksX7_stepOn_7 0 rfl rfl)
theorem dX7_stepOn_165 : decode cX7_stepOn 165 = .ok (.aload_n 0, 1) := dk_42 (dk_at dksX7_stepOn_7 3 rfl rfl)
theorem dX7_stepOn_166 : decode cX7_stepOn 166 = .ok (.dup, 1) := dk_89 (dk_at dksX7_stepOn_7 4 rfl rfl)
theorem dX7_stepOn_167 : decode cX7_stepOn 167 = .ok (.getfield 159, 3) := dk_180 0 159 (dk_at dksX7_stepOn_7 5 rfl rfl)
theorem dX7_stepOn_170 : decode cX7_stepOn 170 = .ok (.iconst 1, 1) := dk_4 (dk_at dksX7_stepOn_7 8 rfl rfl)
theorem dX7_stepOn_171 : decode cX7_stepOn 171 = .ok (.iadd, 1) := dk_96 (dk_at dksX7_stepOn_7 9 rfl rfl)
theorem dX7_stepOn_172 : decode cX7_stepOn 172 = .ok (.putfield 159, 3) := dk_181 0 159 (dk_at dksX7_stepOn_7 10 rfl rfl)
theorem dX7_stepOn_175 : decode cX7_stepOn 175 = .ok (.goto (-52), 3) := dk_167 255 204 (dk_at dksX7_stepOn_7 13 rfl rfl)
theorem dX7_stepOn_178 : decode cX7_stepOn 178 = .ok (.aload_n 0, 1) := dk_42 (dk_at dksX7_stepOn_7 16 rfl rfl)
theorem dX7_stepOn_179 : decode cX7_stepOn 179 = .ok (.iconst 2, 1) := dk_5 (dk_at dksX7_stepOn_7 17 rfl rfl)
theorem dX7_stepOn_180 : decode cX7_stepOn 180 = .ok (.putfield 169, 3) := dk_181 0 169 (dk_at dksX7_stepOn_7 18 rfl rfl)
theorem dX7_stepOn_183 : decode cX7_stepOn 183 = .ok (.goto 29, 3) := dk_167 0 29 (dk_at dksX7_stepOn_7 21 rfl rfl)
theorem dX7_stepOn_186 : decode cX7_stepOn 186 = .ok (.aload_n 0, 1) := dk_42 (dk_at dksX7_stepOn_8 0 rfl rfl)
theorem dX7_stepOn_187 : decode cX7_stepOn 187 = .ok (.dup, 1) := dk_89 (dk_at dksX7_stepOn_8 1 rfl rfl)
theorem dX7_stepOn_188 : decode cX7_stepOn 188 = .ok (.getfield 159, 3) := dk_180 0 159 (dk_at dksX7_stepOn_8 2 rfl rfl)
theorem dX7_stepOn_191 : decode cX7_stepOn 191 = .ok (.iconst 1, 1) := dk_4 (dk_at dksX7_stepOn_8 5 rfl rfl)
theorem dX7_stepOn_192 : decode cX7_stepOn 192 = .ok (.iadd, 1) := dk_96 (dk_at dksX7_stepOn_8 6 rfl rfl)
theorem dX7_stepOn_193 : decode cX7_stepOn 193 = .ok (.putfield 159, 3) := dk_181 0 159 (dk_at dksX7_stepOn_8 7 rfl rfl)
theorem dX7_stepOn_196 : decode cX7_stepOn 196 = .ok (.aload_n 0, 1) := dk_42 (dk_at dksX7_stepOn_8 10 rfl rfl)
theorem dX7_stepOn_197 : decode cX7_stepOn 197 = .ok (.iload_n 1, 1) := dk_27 (dk_at dksX7_stepOn_8 11 rfl rfl)
theorem dX7_stepOn_198 : decode cX7_stepOn 198 = .ok (.invokestatic 189, 3) := dk_184 0 189 (dk_at dksX7_stepOn_8 12 rfl rfl)
theorem dX7_stepOn_201 : decode cX7_stepOn 201 = .ok (.ifCond .eq 7, 3) := dk_153 0 7 (dk_at dksX7_stepOn_8 15 rfl rfl)
theorem dX7_stepOn_204 : decode cX7_stepOn 204 = .ok (.iconst 3, 1) := dk_6 (dk_at dksX7_stepOn_8 18 rfl rfl)
theorem dX7_stepOn_205 : decode cX7_stepOn 205 = .ok (.goto 4, 3) := dk_167 0 4 (dk_at dksX7_stepOn_8 19 rfl rfl)
theorem dX7_stepOn_208 : decode cX7_stepOn 208 = .ok (.iconst 4, 1) := dk_7 (dk_at dksX7_stepOn_8 22 rfl rfl)
theorem dX7_stepOn_209 : decode cX7_stepOn 209 = .ok (.putfield 169, 3) := dk_181 0 169 (dk_at dksX7_stepOn_9 0 rfl rfl)
theorem dX7_stepOn_212 : decode cX7_stepOn 212 = .ok (.aload_n 0, 1) := dk_42 (dk_at dksX7_stepOn_9 3 rfl rfl)
theorem dX7_stepOn_213 : decode cX7_stepOn 213 = .ok (.aload_n 0, 1) := dk_42 (dk_at dksX7_stepOn_9 4 rfl rfl)
theorem dX7_stepOn_214 : decode cX7_stepOn 214 = .ok (.getfield 159, 3) := dk_180 0 159 (dk_at dksX7_stepOn_9 5 rfl rfl)
theorem dX7_stepOn_217 : decode cX7_stepOn 217 = .ok (.putfield 192, 3) := dk_181 0 192 (dk_at dksX7_stepOn_9 8 rfl rfl)
theorem dX7_stepOn_220 : decode cX7_stepOn 220 = .ok (.return_, 1) := dk_177 (dk_at dksX7_stepOn_9 11 rfl rfl)
abbrev cX7_byteAt : ByteArray := prog_20_method_10_code
def yX7_byteAt : MethodName := ⟨RX7, "byteAt", "(I)I"⟩
def dkwX7_byteAt_0 : List UInt8 := [27, 42, 180, 0, 156, 162, 0, 12, 42, 180, 0, 63, 27, 46, 167, 0, 4, 2, 172]
abbrev dktX7_byteAt_0 : List UInt8 := dkwX7_byteAt_0 ++ []
theorem dksX7_byteAt_0 : cX7_byteAt.data.toList.drop 0 = dktX7_byteAt_0 := by decide +kernel
theorem dX7_byteAt_0 : decode cX7_byteAt 0 = .ok (.iload_n 1, 1) := dk_27 (dk_at dksX7_byteAt_0 0 rfl rfl)
theorem dX7_byteAt_1 : decode cX7_byteAt 1 = .ok (.aload_n 0, 1) := dk_42 (dk_at dksX7_byteAt_0 1 rfl rfl)
theorem dX7_byteAt_2 : decode cX7_byteAt 2 = .ok (.getfield 156, 3) := dk_180 0 156 (dk_at dksX7_byteAt_0 2 rfl rfl)
theorem dX7_byteAt_5 : decode cX7_byteAt 5 = .ok (.if_icmp .ge 12, 3) := dk_162 0 12 (dk_at dksX7_byteAt_0 5 rfl rfl)
theorem dX7_byteAt_8 : decode cX7_byteAt 8 = .ok (.aload_n 0, 1) := dk_42 (dk_at dksX7_byteAt_0 8 rfl rfl)
theorem dX7_byteAt_9 : decode cX7_byteAt 9 = .ok (.getfield 63, 3) := dk_180 0 63 (dk_at dksX7_byteAt_0 9 rfl rfl)
theorem dX7_byteAt_12 : decode cX7_byteAt 12 = .ok (.iload_n 1, 1) := dk_27 (dk_at dksX7_byteAt_0 12 rfl rfl)
theorem dX7_byteAt_13 : decode cX7_byteAt 13 = .ok (.iaload, 1) := dk_46 (dk_at dksX7_byteAt_0 13 rfl rfl)
theorem dX7_byteAt_14 : decode cX7_byteAt 14 = .ok (.goto 4, 3) := dk_167 0 4 (dk_at dksX7_byteAt_0 14 rfl rfl)
theorem dX7_byteAt_17 : decode cX7_byteAt 17 = .ok (.iconst (-1), 1) := dk_2 (dk_at dksX7_byteAt_0 17 rfl rfl)
theorem dX7_byteAt_18 : decode cX7_byteAt 18 = .ok (.ireturn, 1) := dk_172 (dk_at dksX7_byteAt_0 18 rfl rfl)
abbrev cX7_isLetter : ByteArray := prog_20_method_11_code
def yX7_isLetter : MethodName := ⟨RX7, "isLetter", "(I)Z"⟩
def dkwX7_isLetter_0 : List UInt8 := [26, 16, 97, 161, 0, 13, 26, 16, 122, 163, 0, 7, 4, 167, 0, 4, 3, 172]
abbrev dktX7_isLetter_0 : List UInt8 := dkwX7_isLetter_0 ++ []
theorem dksX7_isLetter_0 : cX7_isLetter.data.toList.drop 0 = dktX7_isLetter_0 := by decide +kernel
theorem dX7_isLetter_0 : decode cX7_isLetter 0 = .ok (.iload_n 0, 1) := dk_26 (dk_at dksX7_isLetter_0 0 rfl rfl)
theorem dX7_isLetter_1 : decode cX7_isLetter 1 = .ok (.bipush 97, 2) := dk_16 97 (dk_at dksX7_isLetter_0 1 rfl rfl)
theorem dX7_isLetter_3 : decode cX7_isLetter 3 = .ok (.if_icmp .lt 13, 3) := dk_161 0 13 (dk_at dksX7_isLetter_0 3 rfl rfl)
theorem dX7_isLetter_6 : decode cX7_isLetter 6 = .ok (.iload_n 0, 1) := dk_26 (dk_at dksX7_isLetter_0 6 rfl rfl)
theorem dX7_isLetter_7 : decode cX7_isLetter 7 = .ok (.bipush 122, 2) := dk_16 122 (dk_at dksX7_isLetter_0 7 rfl rfl)
theorem dX7_isLetter_9 : decode cX7_isLetter 9 = .ok (.if_icmp .gt 7, 3) := dk_163 0 7 (dk_at dksX7_isLetter_0 9 rfl rfl)
theorem dX7_isLetter_12 : decode cX7_isLetter 12 = .ok (.iconst 1, 1) := dk_4 (dk_at dksX7_isLetter_0 12 rfl rfl)
theorem dX7_isLetter_13 : decode cX7_isLetter 13 = .ok (.goto 4, 3) := dk_167 0 4 (dk_at dksX7_isLetter_0 13 rfl rfl)
theorem dX7_isLetter_16 : decode cX7_isLetter 16 = .ok (.iconst 0, 1) := dk_3 (dk_at dksX7_isLetter_0 16 rfl rfl)
theorem dX7_isLetter_17 : decode cX7_isLetter 17 = .ok (.ireturn, 1) := dk_172 (dk_at dksX7_isLetter_0 17 rfl rfl)
abbrev cX7_isDigit : ByteArray := prog_20_method_12_code
def yX7_isDigit : MethodName := ⟨RX7, "isDigit", "(I)Z"⟩
def dkwX7_isDigit_0 : List UInt8 := [26, 16, 48, 161, 0, 13, 26, 16, 57, 163, 0, 7, 4, 167, 0, 4, 3, 172]
abbrev dktX7_isDigit_0 : List UInt8 := dkwX7_isDigit_0 ++ []
theorem dksX7_isDigit_0 : cX7_isDigit.data.toList.drop 0 = dktX7_isDigit_0 := by decide +kernel
theorem dX7_isDigit_0 : decode cX7_isDigit 0 = .ok (.iload_n 0, 1) := dk_26 (dk_at dksX7_isDigit_0 0 rfl rfl)
theorem dX7_isDigit_1 : decode cX7_isDigit 1 = .ok (.bipush 48, 2) := dk_16 48 (dk_at dksX7_isDigit_0 1 rfl rfl)
theorem dX7_isDigit_3 : decode cX7_isDigit 3 = .ok (.if_icmp .lt 13, 3) := dk_161 0 13 (dk_at dksX7_isDigit_0 3 rfl rfl)
theorem dX7_isDigit_6 : decode cX7_isDigit 6 = .ok (.iload_n 0, 1) := dk_26 (dk_at dksX7_isDigit_0 6 rfl rfl)
theorem dX7_isDigit_7 : decode cX7_isDigit 7 = .ok (.bipush 57, 2) := dk_16 57 (dk_at dksX7_isDigit_0 7 rfl rfl)
theorem dX7_isDigit_9 : decode cX7_isDigit 9 = .ok (.if_icmp .gt 7, 3) := dk_163 0 7 (dk_at dksX7_isDigit_0 9 rfl rfl)
theorem dX7_isDigit_12 : decode cX7_isDigit 12 = .ok (.iconst 1, 1) := dk_4 (dk_at dksX7_isDigit_0 12 rfl rfl)
theorem dX7_isDigit_13 : decode cX7_isDigit 13 = .ok (.goto 4, 3) := dk_167 0 4 (dk_at dksX7_isDigit_0 13 rfl rfl)
theorem dX7_isDigit_16 : decode cX7_isDigit 16 = .ok (.iconst 0, 1) := dk_3 (dk_at dksX7_isDigit_0 16 rfl rfl)
theorem dX7_isDigit_17 : decode cX7_isDigit 17 = .ok (.ireturn, 1) := dk_172 (dk_at dksX7_isDigit_0 17 rfl rfl)
abbrev cX7_isMark : ByteArray := prog_20_method_13_code
def yX7_isMark : MethodName := ⟨RX7, "isMark", "(I)Z"⟩
def dkwX7_isMark_2 : List UInt8 := [26, 16, 61, 160, 0, 7, 4, 167, 0, 4, 3, 172]
abbrev dktX7_isMark_2 : List UInt8 := dkwX7_isMark_2 ++ []
def dkwX7_isMark_1 : List UInt8 := [26, 16, 45, 159, 0, 27, 26, 16, 42, 159, 0, 21, 26, 16, 47, 159, 0, 15, 26, 16, 60, 159, 0, 9]
abbrev dktX7_isMark_1 : List UInt8 := dkwX7_isMark_1 ++ dktX7_isMark_2
def dkwX7_isMark_0 : List UInt8 := [26, 16, 59, 159, 0, 51, 26, 16, 40, 159, 0, 45, 26, 16, 41, 159, 0, 39, 26, 16, 43, 159, 0, 33]
abbrev dktX7_isMark_0 : List UInt8 := dkwX7_isMark_0 ++ dktX7_isMark_1
theorem dksX7_isMark_0 : cX7_isMark.data.toList.drop 0 = dktX7_isMark_0 := by decide +kernel
theorem dksX7_isMark_1 : cX7_isMark.data.toList.drop 24 = dktX7_isMark_1 := dk_seg dksX7_isMark_0 24 rfl rfl
theorem dksX7_isMark_2 : cX7_isMark.data.toList.drop 48 = dktX7_isMark_2 := dk_seg dksX7_isMark_1 24 rfl rfl
theorem dX7_isMark_0 : decode cX7_isMark 0 = .ok (.iload_n 0, 1) := dk_26 (dk_at dksX7_isMark_0 0 rfl rfl)
theorem dX7_isMark_1 : decode cX7_isMark 1 = .ok (.bipush 59, 2) := dk_16 59 (dk_at dksX7_isMark_0 1 rfl rfl)
theorem dX7_isMark_3 : decode cX7_isMark 3 = .ok (.if_icmp .eq 51, 3) := dk_159 0 51 (dk_at dksX7_isMark_0 3 rfl rfl)
theorem dX7_isMark_6 : decode cX7_isMark 6 = .ok (.iload_n 0, 1) := dk_26 (dk_at dksX7_isMark_0 6 rfl rfl)
theorem dX7_isMark_7 : decode cX7_isMark 7 = .ok (.bipush 40, 2) := dk_16 40 (dk_at dksX7_isMark_0 7 rfl rfl)
theorem dX7_isMark_9 : decode cX7_isMark 9 = .ok (.if_icmp .eq 45, 3) := dk_159 0 45 (dk_at dksX7_isMark_0 9 rfl rfl)
theorem dX7_isMark_12 : decode cX7_isMark 12 = .ok (.iload_n 0, 1) := dk_26 (dk_at dksX7_isMark_0 12 rfl rfl)
theorem dX7_isMark_13 : decode cX7_isMark 13 = .ok (.bipush 41, 2) := dk_16 41 (dk_at dksX7_isMark_0 13 rfl rfl)
theorem dX7_isMark_15 : decode cX7_isMark 15 = .ok (.if_icmp .eq 39, 3) := dk_159 0 39 (dk_at dksX7_isMark_0 15 rfl rfl)
theorem dX7_isMark_18 : decode cX7_isMark 18 = .ok (.iload_n 0, 1) := dk_26 (dk_at dksX7_isMark_0 18 rfl rfl)
theorem dX7_isMark_19 : decode cX7_isMark 19 = .ok (.bipush 43, 2) := dk_16 43 (dk_at dksX7_isMark_0 19 rfl rfl)
theorem dX7_isMark_21 : decode cX7_isMark 21 = .ok (.if_icmp .eq 33, 3) := dk_159 0 33 (dk_at dksX7_isMark_0 21 rfl rfl)
theorem dX7_isMark_24 : decode cX7_isMark 24 = .ok (.iload_n 0, 1) := dk_26 (dk_at dksX7_isMark_1 0 rfl rfl)
theorem dX7_isMark_25 : decode cX7_isMark 25 = .ok (.bipush 45, 2) := dk_16 45 (dk_at dksX7_isMark_1 1 rfl rfl)
theorem dX7_isMark_27 : decode cX7_isMark 27 = .ok (.if_icmp .eq 27, 3) := dk_159 0 27 (dk_at dksX7_isMark_1 3 rfl rfl)
theorem dX7_isMark_30 : decode cX7_isMark 30 = .ok (.iload_n 0, 1) := dk_26 (dk_at dksX7_isMark_1 6 rfl rfl)
theorem dX7_isMark_31 : decode cX7_isMark 31 = .ok (.bipush 42, 2) := dk_16 42 (dk_at dksX7_isMark_1 7 rfl rfl)
theorem dX7_isMark_33 : decode cX7_isMark 33 = .ok (.if_icmp .eq 21, 3) := dk_159 0 21 (dk_at dksX7_isMark_1 9 rfl rfl)
theorem dX7_isMark_36 : decode cX7_isMark 36 = .ok (.iload_n 0, 1) := dk_26 (dk_at dksX7_isMark_1 12 rfl rfl)
theorem dX7_isMark_37 : decode cX7_isMark 37 = .ok (.bipush 47, 2) := dk_16 47 (dk_at dksX7_isMark_1 13 rfl rfl)
theorem dX7_isMark_39 : decode cX7_isMark 39 = .ok (.if_icmp .eq 15, 3) := dk_159 0 15 (dk_at dksX7_isMark_1 15 rfl rfl)
theorem dX7_isMark_42 : decode cX7_isMark 42 = .ok (.iload_n 0, 1) := dk_26 (dk_at dksX7_isMark_1 18 rfl rfl)
theorem dX7_isMark_43 : decode cX7_isMark 43 = .ok (.bipush 60, 2) := dk_16 60 (dk_at dksX7_isMark_1 19 rfl rfl)
theorem dX7_isMark_45 : decode cX7_isMark 45 = .ok (.if_icmp .eq 9, 3) := dk_159 0 9 (dk_at dksX7_isMark_1 21 rfl rfl)
theorem dX7_isMark_48 : decode cX7_isMark 48 = .ok (.iload_n 0, 1) := dk_26 (dk_at dksX7_isMark_2 0 rfl rfl)
theorem dX7_isMark_49 : decode cX7_isMark 49 = .ok (.bipush 61, 2) := dk_16 61 (dk_at dksX7_isMark_2 1 rfl rfl)
theorem dX7_isMark_51 : decode cX7_isMark 51 = .ok (.if_icmp .ne 7, 3) := dk_160 0 7 (dk_at dksX7_isMark_2 3 rfl rfl)
theorem dX7_isMark_54 : decode cX7_isMark 54 = .ok (.iconst 1, 1) := dk_4 (dk_at dksX7_isMark_2 6 rfl rfl)
theorem dX7_isMark_55 : decode cX7_isMark 55 = .ok (.goto 4, 3) := dk_167 0 4 (dk_at dksX7_isMark_2 7 rfl rfl)
theorem dX7_isMark_58 : decode cX7_isMark 58 = .ok (.iconst 0, 1) := dk_3 (dk_at dksX7_isMark_2 10 rfl rfl)
theorem dX7_isMark_59 : decode cX7_isMark 59 = .ok (.ireturn, 1) := dk_172 (dk_at dksX7_isMark_2 11 rfl rfl)
abbrev cX7_readLine : ByteArray := prog_20_method_29_code
def yX7_readLine : MethodName := ⟨RX7, "readLine", "(I)I"⟩
def dkwX7_readLine_6 : List UInt8 := [182, 1, 10, 167, 0, 8, 42, 4, 182, 0, 216, 42, 16, 59, 182, 0, 233, 27, 28, 128, 172]
abbrev dktX7_readLine_6 : List UInt8 := dkwX7_readLine_6 ++ []
def dkwX7_readLine_5 : List UInt8 := [182, 0, 223, 79, 167, 0, 29, 42, 3, 182, 0, 236, 167, 0, 21, 29, 2, 159, 0, 11, 42, 29]
abbrev dktX7_readLine_5 : List UInt8 := dkwX7_readLine_5 ++ dktX7_readLine_6
def dkwX7_readLine_4 : List UInt8 := [182, 0, 223, 79, 167, 0, 52, 28, 5, 160, 0, 21, 42, 180, 0, 42, 16, 6, 42, 3, 17, 3, 231]
abbrev dktX7_readLine_4 : List UInt8 := dkwX7_readLine_4 ++ dktX7_readLine_5
def dkwX7_readLine_3 : List UInt8 := [180, 0, 195, 154, 0, 7, 42, 182, 0, 220, 28, 4, 160, 0, 19, 42, 180, 0, 42, 8, 42, 3, 16, 40]
abbrev dktX7_readLine_3 : List UInt8 := dkwX7_readLine_3 ++ dktX7_readLine_4
def dkwX7_readLine_2 : List UInt8 := [180, 0, 19, 182, 0, 229, 62, 28, 27, 126, 153, 0, 8, 42, 7, 182, 0, 216, 28, 158, 0, 66, 42]
abbrev dktX7_readLine_2 : List UInt8 := dkwX7_readLine_2 ++ dktX7_readLine_3
def dkwX7_readLine_1 : List UInt8 := [5, 167, 0, 18, 42, 19, 1, 8, 182, 0, 209, 153, 0, 7, 7, 167, 0, 4, 3, 61, 42, 42]
abbrev dktX7_readLine_1 : List UInt8 := dkwX7_readLine_1 ++ dktX7_readLine_2
def dkwX7_readLine_0 : List UInt8 := [42, 19, 1, 4, 182, 0, 209, 153, 0, 7, 4, 167, 0, 32, 42, 19, 1, 6, 182, 0, 209, 153, 0, 7]
abbrev dktX7_readLine_0 : List UInt8 := dkwX7_readLine_0 ++ dktX7_readLine_1
theorem dksX7_readLine_0 : cX7_readLine.data.toList.drop 0 = dktX7_readLine_0 := by decide +kernel
theorem dksX7_readLine_1 : cX7_readLine.data.toList.drop 24 = dktX7_readLine_1 := dk_seg dksX7_readLine_0 24 rfl rfl
theorem dksX7_readLine_2 : cX7_readLine.data.toList.drop 46 = dktX7_readLine_2 := dk_seg dksX7_readLine_1 22 rfl rfl
theorem dksX7_readLine_3 : cX7_readLine.data.toList.drop 69 = dktX7_readLine_3 := dk_seg dksX7_readLine_2 23 rfl rfl
theorem dksX7_readLine_4 : cX7_readLine.data.toList.drop 93 = dktX7_readLine_4 := dk_seg dksX7_readLine_3 24 rfl rfl
theorem dksX7_readLine_5 : cX7_readLine.data.toList.drop 116 = dktX7_readLine_5 := dk_seg dksX7_readLine_4 23 rfl rfl
theorem dksX7_readLine_6 : cX7_readLine.data.toList.drop 138 = dktX7_readLine_6 := dk_seg dksX7_readLine_5 22 rfl rfl
theorem dX7_readLine_0 : decode cX7_readLine 0 = .ok (.aload_n 0, 1) := dk_42 (dk_at dksX7_readLine_0 0 rfl rfl)
theorem dX7_readLine_1 : decode cX7_readLine 1 = .ok (.ldc_w 260, 3) := dk_19 1 4 (dk_at dksX7_readLine_0 1 rfl rfl)
theorem dX7_readLine_4 : decode cX7_readLine 4 = .ok (.invokevirtual 209, 3) := dk_182 0 209 (dk_at dksX7_readLine_0 4 rfl rfl)
theorem dX7_readLine_7 : decode cX7_readLine 7 = .ok (.ifCond .eq 7, 3) := dk_153 0 7 (dk_at dksX7_readLine_0 7 rfl rfl)
theorem dX7_readLine_10 : decode cX7_readLine 10 = .ok (.iconst 1, 1) := dk_4 (dk_at dksX7_readLine_0 10 rfl rfl)
theorem dX7_readLine_11 : decode cX7_readLine 11 = .ok (.goto 32, 3) := dk_167 0 32 (dk_at dksX7_readLine_0 11 rfl rfl)
theorem dX7_readLine_14 : decode cX7_readLine 14 = .ok (.aload_n 0, 1) := dk_42 (dk_at dksX7_readLine_0 14 rfl rfl)
theorem dX7_readLine_15 : decode cX7_readLine 15 = .ok (.ldc_w 262, 3) := dk_19 1 6 (dk_at dksX7_readLine_0 15 rfl rfl)
theorem dX7_readLine_18 : decode cX7_readLine 18 = .ok (.invokevirtual 209, 3) := dk_182 0 209 (dk_at dksX7_readLine_0 18 rfl rfl)
theorem dX7_readLine_21 : decode cX7_readLine 21 = .ok (.ifCond .eq 7, 3) := dk_153 0 7 (dk_at dksX7_readLine_0 21 rfl rfl)
theorem dX7_readLine_24 : decode cX7_readLine 24 = .ok (.iconst 2, 1) := dk_5 (dk_at dksX7_readLine_1 0 rfl rfl)
theorem dX7_readLine_25 : decode cX7_readLine 25 = .ok (.goto 18, 3) := dk_167 0 18 (dk_at dksX7_readLine_1 1 rfl rfl)
theorem dX7_readLine_28 : decode cX7_readLine 28 = .ok (.aload_n 0, 1) := dk_42 (dk_at dksX7_readLine_1 4 rfl rfl)
theorem dX7_readLine_29 : decode cX7_readLine 29 = .ok (.ldc_w 264, 3) := dk_19 1 8 (dk_at dksX7_readLine_1 5 rfl rfl)
theorem dX7_readLine_32 : decode cX7_readLine 32 = .ok (.invokevirtual 209, 3) := dk_182 0 209 (dk_at dksX7_readLine_1 8 rfl rfl)
theorem dX7_readLine_35 : decode cX7_readLine 35 = .ok (.ifCond .eq 7, 3) := dk_153 0 7 (dk_at dksX7_readLine_1 11 rfl rfl)
theorem dX7_readLine_38 : decode cX7_readLine 38 = .ok (.iconst 4, 1) := dk_7 (dk_at dksX7_readLine_1 14 rfl rfl)
theorem dX7_readLine_39 : decode cX7_readLine 39 = .ok (.goto 4, 3) := dk_167 0 4 (dk_at dksX7_readLine_1 15 rfl rfl)
theorem dX7_readLine_42 : decode cX7_readLine 42 = .ok (.iconst 0, 1) := dk_3 (dk_at dksX7_readLine_1 18 rfl rfl)
theorem dX7_readLine_43 : decode cX7_readLine 43 = .ok (.istore_n 2, 1) := dk_61 (dk_at dksX7_readLine_1 19 rfl rfl)
theorem dX7_readLine_44 : decode cX7_readLine 44 = .ok (.aload_n 0, 1) := dk_42 (dk_at dksX7_readLine_1 20 rfl rfl)
theorem dX7_readLine_45 : decode cX7_readLine 45 = .ok (.aload_n 0, 1) := dk_42 (dk_at dksX7_readLine_1 21 rfl rfl)
theorem dX7_readLine_46 : decode cX7_readLine 46 = .ok (.getfield 19, 3) := dk_180 0 19 (dk_at dksX7_readLine_2 0 rfl rfl)
theorem dX7_readLine_49 : decode cX7_readLine 49 = .ok (.invokevirtual 229, 3) := dk_182 0 229 (dk_at dksX7_readLine_2 3 rfl rfl)
theorem dX7_readLine_52 : decode cX7_readLine 52 = .ok (.istore_n 3, 1) := dk_62 (dk_at dksX7_readLine_2 6 rfl rfl)
theorem dX7_readLine_53 : decode cX7_readLine 53 = .ok (.iload_n 2, 1) := dk_28 (dk_at dksX7_readLine_2 7 rfl rfl)
theorem dX7_readLine_54 : decode cX7_readLine 54 = .ok (.iload_n 1, 1) := dk_27 (dk_at dksX7_readLine_2 8 rfl rfl)
theorem dX7_readLine_55 : decode cX7_readLine 55 = .ok (.iand, 1) := dk_126 (dk_at dksX7_readLine_2 9 rfl rfl)
theorem dX7_readLine_56 : decode cX7_readLine 56 = .ok (.ifCond .eq 8, 3) := dk_153 0 8 (dk_at dksX7_readLine_2 10 rfl rfl)
theorem dX7_readLine_59 : decode cX7_readLine 59 = .ok (.aload_n 0, 1) := dk_42 (dk_at dksX7_readLine_2 13 rfl rfl)
theorem dX7_readLine_60 : decode cX7_readLine 60 = .ok (.iconst 4, 1) := dk_7 (dk_at dksX7_readLine_2 14 rfl rfl)
theorem dX7_readLine_61 : decode cX7_readLine 61 = .ok (.invokevirtual 216, 3) := dk_182 0 216 (dk_at dksX7_readLine_2 15 rfl rfl)
theorem dX7_readLine_64 : decode cX7_readLine 64 = .ok (.iload_n 2, 1) := dk_28 (dk_at dksX7_readLine_2 18 rfl rfl)
theorem dX7_readLine_65 : decode cX7_readLine 65 = .ok (.ifCond .le 66, 3) := dk_158 0 66 (dk_at dksX7_readLine_2 19 rfl rfl)
theorem dX7_readLine_68 : decode cX7_readLine 68 = .ok (.aload_n 0, 1) := dk_42 (dk_at dksX7_readLine_2 22 rfl rfl)
theorem dX7_readLine_69 : decode cX7_readLine 69 = .ok (.getfield 195, 3) := dk_180 0 195 (dk_at dksX7_readLine_3 0 rfl rfl)
theorem dX7_readLine_72 : decode cX7_readLine 72 = .ok (.ifCond .ne 7, 3) := dk_154 0 7 (dk_at dksX7_readLine_3 3 rfl rfl)
theorem dX7_readLine_75 : decode cX7_readLine 75 = .ok (.aload_n 0, 1) := dk_42 (dk_at dksX7_readLine_3 6 rfl rfl)
theorem dX7_readLine_76 : decode cX7_readLine 76 = .ok (.invokevirtual 220, 3) := dk_182 0 220 (dk_at dksX7_readLine_3 7 rfl rfl)
theorem dX7_readLine_79 : decode cX7_readLine 79 = .ok (.iload_n 2, 1) := dk_28 (dk_at dksX7_readLine_3 10 rfl rfl)
theorem dX7_readLine_80 : decode cX7_readLine 80 = .ok (.iconst 1, 1) := dk_4 (dk_at dksX7_readLine_3 11 rfl rfl)
theorem dX7_readLine_81 : decode cX7_readLine 81 = .ok (.if_icmp .ne 19, 3) := dk_160 0 19 (dk_at dksX7_readLine_3 12 rfl rfl)
theorem dX7_readLine_84 : decode cX7_readLine 84 = .ok (.aload_n 0, 1) := dk_42 (dk_at dksX7_readLine_3 15 rfl rfl)
theorem dX7_readLine_85 : decode cX7_readLine 85 = .ok (.getfield 42, 3) := dk_180 0 42 (dk_at dksX7_readLine_3 16 rfl rfl)
theorem dX7_readLine_88 : decode cX7_readLine 88 = .ok (.iconst 5, 1) := dk_8 (dk_at dksX7_readLine_3 19 rfl rfl)
theorem dX7_readLine_89 : decode cX7_readLine 89 = .ok (.aload_n 0, 1) := dk_42 (dk_at dksX7_readLine_3 20 rfl rfl)
theorem dX7_readLine_90 : decode cX7_readLine 90 = .ok (.iconst 0, 1) := dk_3 (dk_at dksX7_readLine_3 21 rfl rfl)
theorem dX7_readLine_91 : decode cX7_readLine 91 = .ok (.bipush 40, 2) := dk_16 40 (dk_at dksX7_readLine_3 22 rfl rfl)
theorem dX7_readLine_93 : decode cX7_readLine 93 = .ok (.invokevirtual 223, 3) := dk_182 0 223 (dk_at dksX7_readLine_4 0 rfl rfl)
theorem dX7_readLine_96 : decode cX7_readLine 96 = .ok (.iastore, 1) := dk_79 (dk_at dksX7_readLine_4 3 rfl rfl)
theorem dX7_readLine_97 : decode cX7_readLine 97 = .ok (.goto 52, 3) := dk_167 0 52 (dk_at dksX7_readLine_4 4 rfl rfl)
theorem dX7_readLine_100 : decode cX7_readLine 100 = .ok (.iload_n 2, 1) := dk_28 (dk_at dksX7_readLine_4 7 rfl rfl)
theorem dX7_readLine_101 : decode cX7_readLine 101 = .ok (.iconst 2, 1) := dk_5 (dk_at dksX7_readLine_4 8 rfl rfl)
theorem dX7_readLine_102 : decode cX7_readLine 102 = .ok (.if_icmp .ne 21, 3) := dk_160 0 21 (dk_at dksX7_readLine_4 9 rfl rfl)
theorem dX7_readLine_105 : decode cX7_readLine 105 = .ok (.aload_n 0, 1) := dk_42 (dk_at dksX7_readLine_4 12 rfl rfl)
theorem dX7_readLine_106 : decode cX7_readLine 106 = .ok (.getfield 42, 3) := dk_180 0 42 (dk_at dksX7_readLine_4 13 rfl rfl)
theorem dX7_readLine_109 : decode cX7_readLine 109 = .ok (.bipush 6, 2) := dk_16 6 (dk_at dksX7_readLine_4 16 rfl rfl)
theorem dX7_readLine_111 : decode cX7_readLine 111 = .ok (.aload_n 0, 1) := dk_42 (dk_at dksX7_readLine_4 18 rfl rfl)
theorem dX7_readLine_112 : decode cX7_readLine 112 = .ok (.iconst 0, 1) := dk_3 (dk_at dksX7_readLine_4 19 rfl rfl)
theorem dX7_readLine_113 : decode cX7_readLine 113 = .ok (.sipush 999, 3) := dk_17 3 231 (dk_at dksX7_readLine_4 20 rfl rfl)
theorem dX7_readLine_116 : decode cX7_readLine 116 = .ok (.invokevirtual 223, 3) := dk_182 0 223 (dk_at dksX7_readLine_5 0 rfl rfl)
theorem dX7_readLine_119 : decode cX7_readLine 119 = .ok (.iastore, 1) := dk_79 (dk_at dksX7_readLine_5 3 rfl rfl)
theorem dX7_readLine_120 : decode cX7_readLine 120 = .ok (.goto 29, 3) := dk_167 0 29 (dk_at dksX7_readLine_5 4 rfl rfl)
theorem dX7_readLine_123 : decode cX7_readLine 123 = .ok (.aload_n 0, 1) := dk_42 (dk_at dksX7_readLine_5 7 rfl rfl)
theorem dX7_readLine_124 : decode cX7_readLine 124 = .ok (.iconst 0, 1) := dk_3 (dk_at dksX7_readLine_5 8 rfl rfl)
theorem dX7_readLine_125 : decode cX7_readLine 125 = .ok (.invokevirtual 236, 3) := dk_182 0 236 (dk_at dksX7_readLine_5 9 rfl rfl)
theorem dX7_readLine_128 : decode cX7_readLine 128 = .ok (.goto 21, 3) := dk_167 0 21 (dk_at dksX7_readLine_5 12 rfl rfl)
theorem dX7_readLine_131 : decode cX7_readLine 131 = .ok (.iload_n 3, 1) := dk_29 (dk_at dksX7_readLine_5 15 rfl rfl)
theorem dX7_readLine_132 : decode cX7_readLine 132 = .ok (.iconst (-1), 1) := dk_2 (dk_at dksX7_readLine_5 16 rfl rfl)
theorem dX7_readLine_133 : decode cX7_readLine 133 = .ok (.if_icmp .eq 11, 3) := dk_159 0 11 (dk_at dksX7_readLine_5 17 rfl rfl)
theorem dX7_readLine_136 : decode cX7_readLine 136 = .ok (.aload_n 0, 1) := dk_42 (dk_at dksX7_readLine_5 20 rfl rfl)
theorem dX7_readLine_137 : decode cX7_readLine 137 = .ok (.iload_n 3, 1) := dk_29 (dk_at dksX7_readLine_5 21 rfl rfl)
theorem dX7_readLine_138 : decode cX7_readLine 138 = .ok (.invokevirtual 266, 3) := dk_182 1 10 (dk_at dksX7_readLine_6 0 rfl rfl)
theorem dX7_readLine_141 : decode cX7_readLine 141 = .ok (.goto 8, 3) := dk_167 0 8 (dk_at dksX7_readLine_6 3 rfl rfl)
theorem dX7_readLine_144 : decode cX7_readLine 144 = .ok (.aload_n 0, 1) := dk_42 (dk_at dksX7_readLine_6 6 rfl rfl)
theorem dX7_readLine_145 : decode cX7_readLine 145 = .ok (.iconst 1, 1) := dk_4 (dk_at dksX7_readLine_6 7 rfl rfl)
theorem dX7_readLine_146 : decode cX7_readLine 146 = .ok (.invokevirtual 216, 3) := dk_182 0 216 (dk_at dksX7_readLine_6 8 rfl rfl)
theorem dX7_readLine_149 : decode cX7_readLine 149 = .ok (.aload_n 0, 1) := dk_42 (dk_at dksX7_readLine_6 11 rfl rfl)
theorem dX7_readLine_150 : decode cX7_readLine 150 = .ok (.bipush 59, 2) := dk_16 59 (dk_at dksX7_readLine_6 12 rfl rfl)
theorem dX7_readLine_152 : decode cX7_readLine 152 = .ok (.invokevirtual 233, 3) := dk_182 0 233 (dk_at dksX7_readLine_6 14 rfl rfl)
theorem dX7_readLine_155 : decode cX7_readLine 155 = .ok (.iload_n 1, 1) := dk_27 (dk_at dksX7_readLine_6 17 rfl rfl)
theorem dX7_readLine_156 : decode cX7_readLine 156 = .ok (.iload_n 2, 1) := dk_28 (dk_at dksX7_readLine_6 18 rfl rfl)
theorem dX7_readLine_157 : decode cX7_readLine 157 = .ok (.ior, 1) := dk_128 (dk_at dksX7_readLine_6 19 rfl rfl)
theorem dX7_readLine_158 : decode cX7_readLine 158 = .ok (.ireturn, 1) := dk_172 (dk_at dksX7_readLine_6 20 rfl rfl)
abbrev cX7_is : ByteArray := prog_20_method_16_code
def yX7_is : MethodName := ⟨RX7, "is", "(Ljava/lang/String;)Z"⟩
def dkwX7_is_3 : List UInt8 := [167, 0, 4, 3, 61, 132, 3, 1, 167, 255, 216, 28, 172]
abbrev dktX7_is_3 : List UInt8 := dkwX7_is_3 ++ []
def dkwX7_is_2 : List UInt8 := [162, 0, 34, 43, 29, 182, 0, 205, 42, 180, 0, 63, 42, 180, 0, 166, 29, 96, 46, 160, 0, 7, 4]
abbrev dktX7_is_2 : List UInt8 := dkwX7_is_2 ++ dktX7_is_3
def dkwX7_is_1 : List UInt8 := [180, 0, 166, 100, 160, 0, 7, 4, 167, 0, 4, 3, 61, 3, 62, 28, 153, 0, 42, 29, 43, 182, 0, 201]
abbrev dktX7_is_1 : List UInt8 := dkwX7_is_1 ++ dktX7_is_2
def dkwX7_is_0 : List UInt8 := [42, 180, 0, 195, 154, 0, 31, 42, 180, 0, 169, 4, 160, 0, 23, 43, 182, 0, 201, 42, 180, 0, 192, 42]
abbrev dktX7_is_0 : List UInt8 := dkwX7_is_0 ++ dktX7_is_1
theorem dksX7_is_0 : cX7_is.data.toList.drop 0 = dktX7_is_0 := by decide +kernel
theorem dksX7_is_1 : cX7_is.data.toList.drop 24 = dktX7_is_1 := dk_seg dksX7_is_0 24 rfl rfl
theorem dksX7_is_2 : cX7_is.data.toList.drop 48 = dktX7_is_2 := dk_seg dksX7_is_1 24 rfl rfl
theorem dksX7_is_3 : cX7_is.data.toList.drop 71 = dktX7_is_3 := dk_seg dksX7_is_2 23 rfl rfl
theorem dX7_is_0 : decode cX7_is 0 = .ok (.aload_n 0, 1) := dk_42 (dk_at dksX7_is_0 0 rfl rfl)
theorem dX7_is_1 : decode cX7_is 1 = .ok (.getfield 195, 3) := dk_180 0 195 (dk_at dksX7_is_0 1 rfl rfl)
theorem dX7_is_4 : decode cX7_is 4 = .ok (.ifCond .ne 31, 3) := dk_154 0 31 (dk_at dksX7_is_0 4 rfl rfl)
theorem dX7_is_7 : decode cX7_is 7 = .ok (.aload_n 0, 1) := dk_42 (dk_at dksX7_is_0 7 rfl rfl)
theorem dX7_is_8 : decode cX7_is 8 = .ok (.getfield 169, 3) := dk_180 0 169 (dk_at dksX7_is_0 8 rfl rfl)
theorem dX7_is_11 : decode cX7_is 11 = .ok (.iconst 1, 1) := dk_4 (dk_at dksX7_is_0 11 rfl rfl)
theorem dX7_is_12 : decode cX7_is 12 = .ok (.if_icmp .ne 23, 3) := dk_160 0 23 (dk_at dksX7_is_0 12 rfl rfl)
theorem dX7_is_15 : decode cX7_is 15 = .ok (.aload_n 1, 1) := dk_43 (dk_at dksX7_is_0 15 rfl rfl)
theorem dX7_is_16 : decode cX7_is 16 = .ok (.invokevirtual 201, 3) := dk_182 0 201 (dk_at dksX7_is_0 16 rfl rfl)
theorem dX7_is_19 : decode cX7_is 19 = .ok (.aload_n 0, 1) := dk_42 (dk_at dksX7_is_0 19 rfl rfl)
theorem dX7_is_20 : decode cX7_is 20 = .ok (.getfield 192, 3) := dk_180 0 192 (dk_at dksX7_is_0 20 rfl rfl)
theorem dX7_is_23 : decode cX7_is 23 = .ok (.aload_n 0, 1) := dk_42 (dk_at dksX7_is_0 23 rfl rfl)
theorem dX7_is_24 : decode cX7_is 24 = .ok (.getfield 166, 3) := dk_180 0 166 (dk_at dksX7_is_1 0 rfl rfl)
theorem dX7_is_27 : decode cX7_is 27 = .ok (.isub, 1) := dk_100 (dk_at dksX7_is_1 3 rfl rfl)
theorem dX7_is_28 : decode cX7_is 28 = .ok (.if_icmp .ne 7, 3) := dk_160 0 7 (dk_at dksX7_is_1 4 rfl rfl)
theorem dX7_is_31 : decode cX7_is 31 = .ok (.iconst 1, 1) := dk_4 (dk_at dksX7_is_1 7 rfl rfl)
theorem dX7_is_32 : decode cX7_is 32 = .ok (.goto 4, 3) := dk_167 0 4 (dk_at dksX7_is_1 8 rfl rfl)
theorem dX7_is_35 : decode cX7_is 35 = .ok (.iconst 0, 1) := dk_3 (dk_at dksX7_is_1 11 rfl rfl)
theorem dX7_is_36 : decode cX7_is 36 = .ok (.istore_n 2, 1) := dk_61 (dk_at dksX7_is_1 12 rfl rfl)
theorem dX7_is_37 : decode cX7_is 37 = .ok (.iconst 0, 1) := dk_3 (dk_at dksX7_is_1 13 rfl rfl)
theorem dX7_is_38 : decode cX7_is 38 = .ok (.istore_n 3, 1) := dk_62 (dk_at dksX7_is_1 14 rfl rfl)
theorem dX7_is_39 : decode cX7_is 39 = .ok (.iload_n 2, 1) := dk_28 (dk_at dksX7_is_1 15 rfl rfl)
theorem dX7_is_40 : decode cX7_is 40 = .ok (.ifCond .eq 42, 3) := dk_153 0 42 (dk_at dksX7_is_1 16 rfl rfl)
theorem dX7_is_43 : decode cX7_is 43 = .ok (.iload_n 3, 1) := dk_29 (dk_at dksX7_is_1 19 rfl rfl)
theorem dX7_is_44 : decode cX7_is 44 = .ok (.aload_n 1, 1) := dk_43 (dk_at dksX7_is_1 20 rfl rfl)
theorem dX7_is_45 : decode cX7_is 45 = .ok (.invokevirtual 201, 3) := dk_182 0 201 (dk_at dksX7_is_1 21 rfl rfl)
theorem dX7_is_48 : decode cX7_is 48 = .ok (.if_icmp .ge 34, 3) := dk_162 0 34 (dk_at dksX7_is_2 0 rfl rfl)
theorem dX7_is_51 : decode cX7_is 51 = .ok (.aload_n 1, 1) := dk_43 (dk_at dksX7_is_2 3 rfl rfl)
theorem dX7_is_52 : decode cX7_is 52 = .ok (.iload_n 3, 1) := dk_29 (dk_at dksX7_is_2 4 rfl rfl)
theorem dX7_is_53 : decode cX7_is 53 = .ok (.invokevirtual 205, 3) := dk_182 0 205 (dk_at dksX7_is_2 5 rfl rfl)
theorem dX7_is_56 : decode cX7_is 56 = .ok (.aload_n 0, 1) := dk_42 (dk_at dksX7_is_2 8 rfl rfl)
theorem dX7_is_57 : decode cX7_is 57 = .ok (.getfield 63, 3) := dk_180 0 63 (dk_at dksX7_is_2 9 rfl rfl)
theorem dX7_is_60 : decode cX7_is 60 = .ok (.aload_n 0, 1) := dk_42 (dk_at dksX7_is_2 12 rfl rfl)
theorem dX7_is_61 : decode cX7_is 61 = .ok (.getfield 166, 3) := dk_180 0 166 (dk_at dksX7_is_2 13 rfl rfl)
theorem dX7_is_64 : decode cX7_is 64 = .ok (.iload_n 3, 1) := dk_29 (dk_at dksX7_is_2 16 rfl rfl)
theorem dX7_is_65 : decode cX7_is 65 = .ok (.iadd, 1) := dk_96 (dk_at dksX7_is_2 17 rfl rfl)
theorem dX7_is_66 : decode cX7_is 66 = .ok (.iaload, 1) := dk_46 (dk_at dksX7_is_2 18 rfl rfl)
theorem dX7_is_67 : decode cX7_is 67 = .ok (.if_icmp .ne 7, 3) := dk_160 0 7 (dk_at dksX7_is_2 19 rfl rfl)
theorem dX7_is_70 : decode cX7_is 70 = .ok (.iconst 1, 1) := dk_4 (dk_at dksX7_is_2 22 rfl rfl)
theorem dX7_is_71 : decode cX7_is 71 = .ok (.goto 4, 3) := dk_167 0 4 (dk_at dksX7_is_3 0 rfl rfl)
theorem dX7_is_74 : decode cX7_is 74 = .ok (.iconst 0, 1) := dk_3 (dk_at dksX7_is_3 3 rfl rfl)
theorem dX7_is_75 : decode cX7_is 75 = .ok (.istore_n 2, 1) := dk_61 (dk_at dksX7_is_3 4 rfl rfl)
theorem dX7_is_76 : decode cX7_is 76 = .ok (.iinc 3 1, 3) := dk_132 3 1 (dk_at dksX7_is_3 5 rfl rfl)
theorem dX7_is_79 : decode cX7_is 79 = .ok (.goto (-40), 3) := dk_167 255 216 (dk_at dksX7_is_3 8 rfl rfl)
theorem dX7_is_82 : decode cX7_is 82 = .ok (.iload_n 2, 1) := dk_28 (dk_at dksX7_is_3 11 rfl rfl)
theorem dX7_is_83 : decode cX7_is 83 = .ok (.ireturn, 1) := dk_172 (dk_at dksX7_is_3 12 rfl rfl)
abbrev cX7_wordOf : ByteArray := prog_20_method_17_code
def yX7_wordOf : MethodName := ⟨RX7, "wordOf", "([Ljava/lang/String;)I"⟩
def dkwX7_wordOf_1 : List UInt8 := [167, 255, 235, 2, 172]
abbrev dktX7_wordOf_1 : List UInt8 := dkwX7_wordOf_1 ++ []
def dkwX7_wordOf_0 : List UInt8 := [3, 61, 28, 43, 190, 162, 0, 21, 42, 43, 28, 50, 182, 0, 209, 153, 0, 5, 28, 172, 132, 2, 1]
abbrev dktX7_wordOf_0 : List UInt8 := dkwX7_wordOf_0 ++ dktX7_wordOf_1
theorem dksX7_wordOf_0 : cX7_wordOf.data.toList.drop 0 = dktX7_wordOf_0 := by decide +kernel
theorem dksX7_wordOf_1 : cX7_wordOf.data.toList.drop 23 = dktX7_wordOf_1 := dk_seg dksX7_wordOf_0 23 rfl rfl
theorem dX7_wordOf_0 : decode cX7_wordOf 0 = .ok (.iconst 0, 1) := dk_3 (dk_at dksX7_wordOf_0 0 rfl rfl)
theorem dX7_wordOf_1 : decode cX7_wordOf 1 = .ok (.istore_n 2, 1) := dk_61 (dk_at dksX7_wordOf_0 1 rfl rfl)
theorem dX7_wordOf_2 : decode cX7_wordOf 2 = .ok (.iload_n 2, 1) := dk_28 (dk_at dksX7_wordOf_0 2 rfl rfl)
theorem dX7_wordOf_3 : decode cX7_wordOf 3 = .ok (.aload_n 1, 1) := dk_43 (dk_at dksX7_wordOf_0 3 rfl rfl)
theorem dX7_wordOf_4 : decode cX7_wordOf 4 = .ok (.arraylength, 1) := dk_190 (dk_at dksX7_wordOf_0 4 rfl rfl)
theorem dX7_wordOf_5 : decode cX7_wordOf 5 = .ok (.if_icmp .ge 21, 3) := dk_162 0 21 (dk_at dksX7_wordOf_0 5 rfl rfl)
theorem dX7_wordOf_8 : decode cX7_wordOf 8 = .ok (.aload_n 0, 1) := dk_42 (dk_at dksX7_wordOf_0 8 rfl rfl)
theorem dX7_wordOf_9 : decode cX7_wordOf 9 = .ok (.aload_n 1, 1) := dk_43 (dk_at dksX7_wordOf_0 9 rfl rfl)
theorem dX7_wordOf_10 : decode cX7_wordOf 10 = .ok (.iload_n 2, 1) := dk_28 (dk_at dksX7_wordOf_0 10 rfl rfl)
theorem dX7_wordOf_11 : decode cX7_wordOf 11 = .ok (.aaload, 1) := dk_50 (dk_at dksX7_wordOf_0 11 rfl rfl)
theorem dX7_wordOf_12 : decode cX7_wordOf 12 = .ok (.invokevirtual 209, 3) := dk_182 0 209 (dk_at dksX7_wordOf_0 12 rfl rfl)
theorem dX7_wordOf_15 : decode cX7_wordOf 15 = .ok (.ifCond .eq 5, 3) := dk_153 0 5 (dk_at dksX7_wordOf_0 15 rfl rfl)
theorem dX7_wordOf_18 : decode cX7_wordOf 18 = .ok (.iload_n 2, 1) := dk_28 (dk_at dksX7_wordOf_0 18 rfl rfl)
theorem dX7_wordOf_19 : decode cX7_wordOf 19 = .ok (.ireturn, 1) := dk_172 (dk_at dksX7_wordOf_0 19 rfl rfl)
theorem dX7_wordOf_20 : decode cX7_wordOf 20 = .ok (.iinc 2 1, 3) := dk_132 2 1 (dk_at dksX7_wordOf_0 20 rfl rfl)
theorem dX7_wordOf_23 : decode cX7_wordOf 23 = .ok (.goto (-21), 3) := dk_167 255 235 (dk_at dksX7_wordOf_1 0 rfl rfl)
theorem dX7_wordOf_26 : decode cX7_wordOf 26 = .ok (.iconst (-1), 1) := dk_2 (dk_at dksX7_wordOf_1 3 rfl rfl)
theorem dX7_wordOf_27 : decode cX7_wordOf 27 = .ok (.ireturn, 1) := dk_172 (dk_at dksX7_wordOf_1 4 rfl rfl)
abbrev cX7_wrong : ByteArray := prog_20_method_15_code
def yX7_wrong : MethodName := ⟨RX7, "wrong", "(I)V"⟩
def dkwX7_wrong_0 : List UInt8 := [42, 180, 0, 195, 153, 0, 4, 177, 42, 27, 181, 0, 195, 42, 42, 180, 0, 166, 181, 0, 198, 177]
abbrev dktX7_wrong_0 : List UInt8 := dkwX7_wrong_0 ++ []
theorem dksX7_wrong_0 : cX7_wrong.data.toList.drop 0 = dktX7_wrong_0 := by decide +kernel
theorem dX7_wrong_0 : decode cX7_wrong 0 = .ok (.aload_n 0, 1) := dk_42 (dk_at dksX7_wrong_0 0 rfl rfl)
theorem dX7_wrong_1 : decode cX7_wrong 1 = .ok (.getfield 195, 3) := dk_180 0 195 (dk_at dksX7_wrong_0 1 rfl rfl)
theorem dX7_wrong_4 : decode cX7_wrong 4 = .ok (.ifCond .eq 4, 3) := dk_153 0 4 (dk_at dksX7_wrong_0 4 rfl rfl)
theorem dX7_wrong_7 : decode cX7_wrong 7 = .ok (.return_, 1) := dk_177 (dk_at dksX7_wrong_0 7 rfl rfl)
theorem dX7_wrong_8 : decode cX7_wrong 8 = .ok (.aload_n 0, 1) := dk_42 (dk_at dksX7_wrong_0 8 rfl rfl)
theorem dX7_wrong_9 : decode cX7_wrong 9 = .ok (.iload_n 1, 1) := dk_27 (dk_at dksX7_wrong_0 9 rfl rfl)
theorem dX7_wrong_10 : decode cX7_wrong 10 = .ok (.putfield 195, 3) := dk_181 0 195 (dk_at dksX7_wrong_0 10 rfl rfl)
theorem dX7_wrong_13 : decode cX7_wrong 13 = .ok (.aload_n 0, 1) := dk_42 (dk_at dksX7_wrong_0 13 rfl rfl)
theorem dX7_wrong_14 : decode cX7_wrong 14 = .ok (.aload_n 0, 1) := dk_42 (dk_at dksX7_wrong_0 14 rfl rfl)
theorem dX7_wrong_15 : decode cX7_wrong 15 = .ok (.getfield 166, 3) := dk_180 0 166 (dk_at dksX7_wrong_0 15 rfl rfl)
theorem dX7_wrong_18 : decode cX7_wrong 18 = .ok (.putfield 198, 3) := dk_181 0 198 (dk_at dksX7_wrong_0 18 rfl rfl)
theorem dX7_wrong_21 : decode cX7_wrong 21 = .ok (.return_, 1) := dk_177 (dk_at dksX7_wrong_0 21 rfl rfl)
abbrev cX7_readNumber : ByteArray := prog_20_method_20_code
def yX7_readNumber : MethodName := ⟨RX7, "readNumber", "(II)I"⟩
def dkwX7_readNumber_3 : List UInt8 := [167, 0, 4, 3, 62, 42, 180, 0, 195, 154, 0, 7, 42, 182, 0, 220, 29, 172]
abbrev dktX7_readNumber_3 : List UInt8 := dkwX7_readNumber_3 ++ []
def dkwX7_readNumber_2 : List UInt8 := [42, 180, 0, 179, 28, 164, 0, 8, 42, 5, 182, 0, 216, 42, 180, 0, 195, 154, 0, 10, 42, 180, 0, 179]
abbrev dktX7_readNumber_2 : List UInt8 := dkwX7_readNumber_2 ++ dktX7_readNumber_3
def dkwX7_readNumber_1 : List UInt8 := [167, 0, 37, 42, 180, 0, 192, 42, 180, 0, 166, 100, 7, 163, 0, 19, 42, 180, 0, 179, 27, 161, 0, 11]
abbrev dktX7_readNumber_1 : List UInt8 := dkwX7_readNumber_1 ++ dktX7_readNumber_2
def dkwX7_readNumber_0 : List UInt8 := [42, 180, 0, 195, 153, 0, 5, 3, 172, 42, 180, 0, 169, 5, 159, 0, 11, 42, 4, 182, 0, 216]
abbrev dktX7_readNumber_0 : List UInt8 := dkwX7_readNumber_0 ++ dktX7_readNumber_1
theorem dksX7_readNumber_0 : cX7_readNumber.data.toList.drop 0 = dktX7_readNumber_0 := by decide +kernel
theorem dksX7_readNumber_1 : cX7_readNumber.data.toList.drop 22 = dktX7_readNumber_1 := dk_seg dksX7_readNumber_0 22 rfl rfl
theorem dksX7_readNumber_2 : cX7_readNumber.data.toList.drop 46 = dktX7_readNumber_2 := dk_seg dksX7_readNumber_1 24 rfl rfl
theorem dksX7_readNumber_3 : cX7_readNumber.data.toList.drop 70 = dktX7_readNumber_3 := dk_seg dksX7_readNumber_2 24 rfl rfl
theorem dX7_readNumber_0 : decode cX7_readNumber 0 = .ok (.aload_n 0, 1) := dk_42 (dk_at dksX7_readNumber_0 0 rfl rfl)
theorem dX7_readNumber_1 : decode cX7_readNumber 1 = .ok (.getfield 195, 3) := dk_180 0 195 (dk_at dksX7_readNumber_0 1 rfl rfl)
theorem dX7_readNumber_4 : decode cX7_readNumber 4 = .ok (.ifCond .eq 5, 3) := dk_153 0 5 (dk_at dksX7_readNumber_0 4 rfl rfl)
theorem dX7_readNumber_7 : decode cX7_readNumber 7 = .ok (.iconst 0, 1) := dk_3 (dk_at dksX7_readNumber_0 7 rfl rfl)
theorem dX7_readNumber_8 : decode cX7_readNumber 8 = .ok (.ireturn, 1) := dk_172 (dk_at dksX7_readNumber_0 8 rfl rfl)
theorem dX7_readNumber_9 : decode cX7_readNumber 9 = .ok (.aload_n 0, 1) := dk_42 (dk_at dksX7_readNumber_0 9 rfl rfl)
theorem dX7_readNumber_10 : decode cX7_readNumber 10 = .ok (.getfield 169, 3) := dk_180 0 169 (dk_at dksX7_readNumber_0 10 rfl rfl)
theorem dX7_readNumber_13 : decode cX7_readNumber 13 = .ok (.iconst 2, 1) := dk_5 (dk_at dksX7_readNumber_0 13 rfl rfl)
theorem dX7_readNumber_14 : decode cX7_readNumber 14 = .ok (.if_icmp .eq 11, 3) := dk_159 0 11 (dk_at dksX7_readNumber_0 14 rfl rfl)
theorem dX7_readNumber_17 : decode cX7_readNumber 17 = .ok (.aload_n 0, 1) := dk_42 (dk_at dksX7_readNumber_0 17 rfl rfl)
theorem dX7_readNumber_18 : decode cX7_readNumber 18 = .ok (.iconst 1, 1) := dk_4 (dk_at dksX7_readNumber_0 18 rfl rfl)
theorem dX7_readNumber_19 : decode cX7_readNumber 19 = .ok (.invokevirtual 216, 3) := dk_182 0 216 (dk_at dksX7_readNumber_0 19 rfl rfl)
theorem dX7_readNumber_22 : decode cX7_readNumber 22 = .ok (.goto 37, 3) := dk_167 0 37 (dk_at dksX7_readNumber_1 0 rfl rfl)
theorem dX7_readNumber_25 : decode cX7_readNumber 25 = .ok (.aload_n 0, 1) := dk_42 (dk_at dksX7_readNumber_1 3 rfl rfl)
theorem dX7_readNumber_26 : decode cX7_readNumber 26 = .ok (.getfield 192, 3) := dk_180 0 192 (dk_at dksX7_readNumber_1 4 rfl rfl)
theorem dX7_readNumber_29 : decode cX7_readNumber 29 = .ok (.aload_n 0, 1) := dk_42 (dk_at dksX7_readNumber_1 7 rfl rfl)
theorem dX7_readNumber_30 : decode cX7_readNumber 30 = .ok (.getfield 166, 3) := dk_180 0 166 (dk_at dksX7_readNumber_1 8 rfl rfl)
theorem dX7_readNumber_33 : decode cX7_readNumber 33 = .ok (.isub, 1) := dk_100 (dk_at dksX7_readNumber_1 11 rfl rfl)
theorem dX7_readNumber_34 : decode cX7_readNumber 34 = .ok (.iconst 4, 1) := dk_7 (dk_at dksX7_readNumber_1 12 rfl rfl)
theorem dX7_readNumber_35 : decode cX7_readNumber 35 = .ok (.if_icmp .gt 19, 3) := dk_163 0 19 (dk_at dksX7_readNumber_1 13 rfl rfl)
theorem dX7_readNumber_38 : decode cX7_readNumber 38 = .ok (.aload_n 0, 1) := dk_42 (dk_at dksX7_readNumber_1 16 rfl rfl)
theorem dX7_readNumber_39 : decode cX7_readNumber 39 = .ok (.getfield 179, 3) := dk_180 0 179 (dk_at dksX7_readNumber_1 17 rfl rfl)
theorem dX7_readNumber_42 : decode cX7_readNumber 42 = .ok (.iload_n 1, 1) := dk_27 (dk_at dksX7_readNumber_1 20 rfl rfl)
theorem dX7_readNumber_43 : decode cX7_readNumber 43 = .ok (.if_icmp .lt 11, 3) := dk_161 0 11 (dk_at dksX7_readNumber_1 21 rfl rfl)
theorem dX7_readNumber_46 : decode cX7_readNumber 46 = .ok (.aload_n 0, 1) := dk_42 (dk_at dksX7_readNumber_2 0 rfl rfl)
theorem dX7_readNumber_47 : decode cX7_readNumber 47 = .ok (.getfield 179, 3) := dk_180 0 179 (dk_at dksX7_readNumber_2 1 rfl rfl)
theorem dX7_readNumber_50 : decode cX7_readNumber 50 = .ok (.iload_n 2, 1) := dk_28 (dk_at dksX7_readNumber_2 4 rfl rfl)
theorem dX7_readNumber_51 : decode cX7_readNumber 51 = .ok (.if_icmp .le 8, 3) := dk_164 0 8 (dk_at dksX7_readNumber_2 5 rfl rfl)
theorem dX7_readNumber_54 : decode cX7_readNumber 54 = .ok (.aload_n 0, 1) := dk_42 (dk_at dksX7_readNumber_2 8 rfl rfl)
theorem dX7_readNumber_55 : decode cX7_readNumber 55 = .ok (.iconst 2, 1) := dk_5 (dk_at dksX7_readNumber_2 9 rfl rfl)
theorem dX7_readNumber_56 : decode cX7_readNumber 56 = .ok (.invokevirtual 216, 3) := dk_182 0 216 (dk_at dksX7_readNumber_2 10 rfl rfl)
theorem dX7_readNumber_59 : decode cX7_readNumber 59 = .ok (.aload_n 0, 1) := dk_42 (dk_at dksX7_readNumber_2 13 rfl rfl)
theorem dX7_readNumber_60 : decode cX7_readNumber 60 = .ok (.getfield 195, 3) := dk_180 0 195 (dk_at dksX7_readNumber_2 14 rfl rfl)
theorem dX7_readNumber_63 : decode cX7_readNumber 63 = .ok (.ifCond .ne 10, 3) := dk_154 0 10 (dk_at dksX7_readNumber_2 17 rfl rfl)
theorem dX7_readNumber_66 : decode cX7_readNumber 66 = .ok (.aload_n 0, 1) := dk_42 (dk_at dksX7_readNumber_2 20 rfl rfl)
theorem dX7_readNumber_67 : decode cX7_readNumber 67 = .ok (.getfield 179, 3) := dk_180 0 179 (dk_at dksX7_readNumber_2 21 rfl rfl)
theorem dX7_readNumber_70 : decode cX7_readNumber 70 = .ok (.goto 4, 3) := dk_167 0 4 (dk_at dksX7_readNumber_3 0 rfl rfl)
theorem dX7_readNumber_73 : decode cX7_readNumber 73 = .ok (.iconst 0, 1) := dk_3 (dk_at dksX7_readNumber_3 3 rfl rfl)
theorem dX7_readNumber_74 : decode cX7_readNumber 74 = .ok (.istore_n 3, 1) := dk_62 (dk_at dksX7_readNumber_3 4 rfl rfl)
theorem dX7_readNumber_75 : decode cX7_readNumber 75 = .ok (.aload_n 0, 1) := dk_42 (dk_at dksX7_readNumber_3 5 rfl rfl)
theorem dX7_readNumber_76 : decode cX7_readNumber 76 = .ok (.getfield 195, 3) := dk_180 0 195 (dk_at dksX7_readNumber_3 6 rfl rfl)
theorem dX7_readNumber_79 : decode cX7_readNumber 79 = .ok (.ifCond .ne 7, 3) := dk_154 0 7 (dk_at dksX7_readNumber_3 9 rfl rfl)
theorem dX7_readNumber_82 : decode cX7_readNumber 82 = .ok (.aload_n 0, 1) := dk_42 (dk_at dksX7_readNumber_3 12 rfl rfl)
theorem dX7_readNumber_83 : decode cX7_readNumber 83 = .ok (.invokevirtual 220, 3) := dk_182 0 220 (dk_at dksX7_readNumber_3 13 rfl rfl)
theorem dX7_readNumber_86 : decode cX7_readNumber 86 = .ok (.iload_n 3, 1) := dk_29 (dk_at dksX7_readNumber_3 16 rfl rfl)
theorem dX7_readNumber_87 : decode cX7_readNumber 87 = .ok (.ireturn, 1) := dk_172 (dk_at dksX7_readNumber_3 17 rfl rfl)
abbrev cX7_readExpression : ByteArray := prog_20_method_27_code
def yX7_readExpression : MethodName := ⟨RX7, "readExpression", "(I)V"⟩
def dkwX7_readExpression_4 : List UInt8 := [177]
abbrev dktX7_readExpression_4 : List UInt8 := dkwX7_readExpression_4 ++ []
def dkwX7_readExpression_3 : List UInt8 := [182, 0, 209, 153, 0, 21, 42, 182, 0, 220, 42, 27, 182, 0, 255, 42, 16, 229, 182, 0, 226, 167, 255, 231]
abbrev dktX7_readExpression_3 : List UInt8 := dkwX7_readExpression_3 ++ dktX7_readExpression_4
def dkwX7_readExpression_2 : List UInt8 := [167, 0, 14, 27, 16, 6, 160, 0, 8, 42, 5, 182, 0, 216, 42, 27, 182, 0, 255, 42, 19, 1, 2]
abbrev dktX7_readExpression_2 : List UInt8 := dkwX7_readExpression_2 ++ dktX7_readExpression_3
def dkwX7_readExpression_1 : List UInt8 := [42, 16, 40, 182, 0, 213, 153, 0, 7, 4, 167, 0, 4, 3, 61, 28, 154, 0, 11, 42, 4, 182, 0, 216]
abbrev dktX7_readExpression_1 : List UInt8 := dkwX7_readExpression_1 ++ dktX7_readExpression_2
def dkwX7_readExpression_0 : List UInt8 := [42, 180, 0, 195, 153, 0, 4, 177, 42, 180, 0, 169, 5, 159, 0, 20, 42, 180, 0, 169, 4, 159, 0, 12]
abbrev dktX7_readExpression_0 : List UInt8 := dkwX7_readExpression_0 ++ dktX7_readExpression_1
theorem dksX7_readExpression_0 : cX7_readExpression.data.toList.drop 0 = dktX7_readExpression_0 := by decide +kernel
theorem dksX7_readExpression_1 : cX7_readExpression.data.toList.drop 24 = dktX7_readExpression_1 := dk_seg dksX7_readExpression_0 24 rfl rfl
theorem dksX7_readExpression_2 : cX7_readExpression.data.toList.drop 48 = dktX7_readExpression_2 := dk_seg dksX7_readExpression_1 24 rfl rfl
theorem dksX7_readExpression_3 : cX7_readExpression.data.toList.drop 71 = dktX7_readExpression_3 := dk_seg dksX7_readExpression_2 23 rfl rfl
theorem dksX7_readExpression_4 : cX7_readExpression.data.toList.drop 95 = dktX7_readExpression_4 := dk_seg dksX7_readExpression_3 24 rfl rfl
theorem dX7_readExpression_0 : decode cX7_readExpression 0 = .ok (.aload_n 0, 1) := dk_42 (dk_at dksX7_readExpression_0 0 rfl rfl)
theorem dX7_readExpression_1 : decode cX7_readExpression 1 = .ok (.getfield 195, 3) := dk_180 0 195 (dk_at dksX7_readExpression_0 1 rfl rfl)
theorem dX7_readExpression_4 : decode cX7_readExpression 4 = .ok (.ifCond .eq 4, 3) := dk_153 0 4 (dk_at dksX7_readExpression_0 4 rfl rfl)
theorem dX7_readExpression_7 : decode cX7_readExpression 7 = .ok (.return_, 1) := dk_177 (dk_at dksX7_readExpression_0 7 rfl rfl)
theorem dX7_readExpression_8 : decode cX7_readExpression 8 = .ok (.aload_n 0, 1) := dk_42 (dk_at dksX7_readExpression_0 8 rfl rfl)
theorem dX7_readExpression_9 : decode cX7_readExpression 9 = .ok (.getfield 169, 3) := dk_180 0 169 (dk_at dksX7_readExpression_0 9 rfl rfl)
theorem dX7_readExpression_12 : decode cX7_readExpression 12 = .ok (.iconst 2, 1) := dk_5 (dk_at dksX7_readExpression_0 12 rfl rfl)
theorem dX7_readExpression_13 : decode cX7_readExpression 13 = .ok (.if_icmp .eq 20, 3) := dk_159 0 20 (dk_at dksX7_readExpression_0 13 rfl rfl)
theorem dX7_readExpression_16 : decode cX7_readExpression 16 = .ok (.aload_n 0, 1) := dk_42 (dk_at dksX7_readExpression_0 16 rfl rfl)
theorem dX7_readExpression_17 : decode cX7_readExpression 17 = .ok (.getfield 169, 3) := dk_180 0 169 (dk_at dksX7_readExpression_0 17 rfl rfl)
theorem dX7_readExpression_20 : decode cX7_readExpression 20 = .ok (.iconst 1, 1) := dk_4 (dk_at dksX7_readExpression_0 20 rfl rfl)
theorem dX7_readExpression_21 : decode cX7_readExpression 21 = .ok (.if_icmp .eq 12, 3) := dk_159 0 12 (dk_at dksX7_readExpression_0 21 rfl rfl)
theorem dX7_readExpression_24 : decode cX7_readExpression 24 = .ok (.aload_n 0, 1) := dk_42 (dk_at dksX7_readExpression_1 0 rfl rfl)
theorem dX7_readExpression_25 : decode cX7_readExpression 25 = .ok (.bipush 40, 2) := dk_16 40 (dk_at dksX7_readExpression_1 1 rfl rfl)
theorem dX7_readExpression_27 : decode cX7_readExpression 27 = .ok (.invokevirtual 213, 3) := dk_182 0 213 (dk_at dksX7_readExpression_1 3 rfl rfl)
theorem dX7_readExpression_30 : decode cX7_readExpression 30 = .ok (.ifCond .eq 7, 3) := dk_153 0 7 (dk_at dksX7_readExpression_1 6 rfl rfl)
theorem dX7_readExpression_33 : decode cX7_readExpression 33 = .ok (.iconst 1, 1) := dk_4 (dk_at dksX7_readExpression_1 9 rfl rfl)
theorem dX7_readExpression_34 : decode cX7_readExpression 34 = .ok (.goto 4, 3) := dk_167 0 4 (dk_at dksX7_readExpression_1 10 rfl rfl)
theorem dX7_readExpression_37 : decode cX7_readExpression 37 = .ok (.iconst 0, 1) := dk_3 (dk_at dksX7_readExpression_1 13 rfl rfl)
theorem dX7_readExpression_38 : decode cX7_readExpression 38 = .ok (.istore_n 2, 1) := dk_61 (dk_at dksX7_readExpression_1 14 rfl rfl)
theorem dX7_readExpression_39 : decode cX7_readExpression 39 = .ok (.iload_n 2, 1) := dk_28 (dk_at dksX7_readExpression_1 15 rfl rfl)
theorem dX7_readExpression_40 : decode cX7_readExpression 40 = .ok (.ifCond .ne 11, 3) := dk_154 0 11 (dk_at dksX7_readExpression_1 16 rfl rfl)
theorem dX7_readExpression_43 : decode cX7_readExpression 43 = .ok (.aload_n 0, 1) := dk_42 (dk_at dksX7_readExpression_1 19 rfl rfl)
theorem dX7_readExpression_44 : decode cX7_readExpression 44 = .ok (.iconst 1, 1) := dk_4 (dk_at dksX7_readExpression_1 20 rfl rfl)
theorem dX7_readExpression_45 : decode cX7_readExpression 45 = .ok (.invokevirtual 216, 3) := dk_182 0 216 (dk_at dksX7_readExpression_1 21 rfl rfl)
theorem dX7_readExpression_48 : decode cX7_readExpression 48 = .ok (.goto 14, 3) := dk_167 0 14 (dk_at dksX7_readExpression_2 0 rfl rfl)
theorem dX7_readExpression_51 : decode cX7_readExpression 51 = .ok (.iload_n 1, 1) := dk_27 (dk_at dksX7_readExpression_2 3 rfl rfl)
theorem dX7_readExpression_52 : decode cX7_readExpression 52 = .ok (.bipush 6, 2) := dk_16 6 (dk_at dksX7_readExpression_2 4 rfl rfl)
theorem dX7_readExpression_54 : decode cX7_readExpression 54 = .ok (.if_icmp .ne 8, 3) := dk_160 0 8 (dk_at dksX7_readExpression_2 6 rfl rfl)
theorem dX7_readExpression_57 : decode cX7_readExpression 57 = .ok (.aload_n 0, 1) := dk_42 (dk_at dksX7_readExpression_2 9 rfl rfl)
theorem dX7_readExpression_58 : decode cX7_readExpression 58 = .ok (.iconst 2, 1) := dk_5 (dk_at dksX7_readExpression_2 10 rfl rfl)
theorem dX7_readExpression_59 : decode cX7_readExpression 59 = .ok (.invokevirtual 216, 3) := dk_182 0 216 (dk_at dksX7_readExpression_2 11 rfl rfl)
theorem dX7_readExpression_62 : decode cX7_readExpression 62 = .ok (.aload_n 0, 1) := dk_42 (dk_at dksX7_readExpression_2 14 rfl rfl)
theorem dX7_readExpression_63 : decode cX7_readExpression 63 = .ok (.iload_n 1, 1) := dk_27 (dk_at dksX7_readExpression_2 15 rfl rfl)
theorem dX7_readExpression_64 : decode cX7_readExpression 64 = .ok (.invokevirtual 255, 3) := dk_182 0 255 (dk_at dksX7_readExpression_2 16 rfl rfl)
theorem dX7_readExpression_67 : decode cX7_readExpression 67 = .ok (.aload_n 0, 1) := dk_42 (dk_at dksX7_readExpression_2 19 rfl rfl)
theorem dX7_readExpression_68 : decode cX7_readExpression 68 = .ok (.ldc_w 258, 3) := dk_19 1 2 (dk_at dksX7_readExpression_2 20 rfl rfl)
theorem dX7_readExpression_71 : decode cX7_readExpression 71 = .ok (.invokevirtual 209, 3) := dk_182 0 209 (dk_at dksX7_readExpression_3 0 rfl rfl)
theorem dX7_readExpression_74 : decode cX7_readExpression 74 = .ok (.ifCond .eq 21, 3) := dk_153 0 21 (dk_at dksX7_readExpression_3 3 rfl rfl)
theorem dX7_readExpression_77 : decode cX7_readExpression 77 = .ok (.aload_n 0, 1) := dk_42 (dk_at dksX7_readExpression_3 6 rfl rfl)
theorem dX7_readExpression_78 : decode cX7_readExpression 78 = .ok (.invokevirtual 220, 3) := dk_182 0 220 (dk_at dksX7_readExpression_3 7 rfl rfl)
theorem dX7_readExpression_81 : decode cX7_readExpression 81 = .ok (.aload_n 0, 1) := dk_42 (dk_at dksX7_readExpression_3 10 rfl rfl)
theorem dX7_readExpression_82 : decode cX7_readExpression 82 = .ok (.iload_n 1, 1) := dk_27 (dk_at dksX7_readExpression_3 11 rfl rfl)
theorem dX7_readExpression_83 : decode cX7_readExpression 83 = .ok (.invokevirtual 255, 3) := dk_182 0 255 (dk_at dksX7_readExpression_3 12 rfl rfl)
theorem dX7_readExpression_86 : decode cX7_readExpression 86 = .ok (.aload_n 0, 1) := dk_42 (dk_at dksX7_readExpression_3 15 rfl rfl)
theorem dX7_readExpression_87 : decode cX7_readExpression 87 = .ok (.bipush (-27), 2) := dk_16 229 (dk_at dksX7_readExpression_3 16 rfl rfl)
theorem dX7_readExpression_89 : decode cX7_readExpression 89 = .ok (.invokevirtual 226, 3) := dk_182 0 226 (dk_at dksX7_readExpression_3 18 rfl rfl)
theorem dX7_readExpression_92 : decode cX7_readExpression 92 = .ok (.goto (-25), 3) := dk_167 255 231 (dk_at dksX7_readExpression_3 21 rfl rfl)
theorem dX7_readExpression_95 : decode cX7_readExpression 95 = .ok (.return_, 1) := dk_177 (dk_at dksX7_readExpression_4 0 rfl rfl)
abbrev cX7_isMarked : ByteArray := prog_20_method_18_code
def yX7_isMarked : MethodName := ⟨RX7, "isMarked", "(I)Z"⟩
def dkwX7_isMarked_1 : List UInt8 := [27, 160, 0, 7, 4, 167, 0, 4, 3, 172]
abbrev dktX7_isMarked_1 : List UInt8 := dkwX7_isMarked_1 ++ []
def dkwX7_isMarked_0 : List UInt8 := [42, 180, 0, 195, 154, 0, 28, 42, 180, 0, 169, 6, 160, 0, 20, 42, 180, 0, 63, 42, 180, 0, 166, 46]
abbrev dktX7_isMarked_0 : List UInt8 := dkwX7_isMarked_0 ++ dktX7_isMarked_1
theorem dksX7_isMarked_0 : cX7_isMarked.data.toList.drop 0 = dktX7_isMarked_0 := by decide +kernel
theorem dksX7_isMarked_1 : cX7_isMarked.data.toList.drop 24 = dktX7_isMarked_1 := dk_seg dksX7_isMarked_0 24 rfl rfl
theorem dX7_isMarked_0 : decode cX7_isMarked 0 = .ok (.aload_n 0, 1) := dk_42 (dk_at dksX7_isMarked_0 0 rfl rfl)
theorem dX7_isMarked_1 : decode cX7_isMarked 1 = .ok (.getfield 195, 3) := dk_180 0 195 (dk_at dksX7_isMarked_0 1 rfl rfl)
theorem dX7_isMarked_4 : decode cX7_isMarked 4 = .ok (.ifCond .ne 28, 3) := dk_154 0 28 (dk_at dksX7_isMarked_0 4 rfl rfl)
theorem dX7_isMarked_7 : decode cX7_isMarked 7 = .ok (.aload_n 0, 1) := dk_42 (dk_at dksX7_isMarked_0 7 rfl rfl)
theorem dX7_isMarked_8 : decode cX7_isMarked 8 = .ok (.getfield 169, 3) := dk_180 0 169 (dk_at dksX7_isMarked_0 8 rfl rfl)
theorem dX7_isMarked_11 : decode cX7_isMarked 11 = .ok (.iconst 3, 1) := dk_6 (dk_at dksX7_isMarked_0 11 rfl rfl)
theorem dX7_isMarked_12 : decode cX7_isMarked 12 = .ok (.if_icmp .ne 20, 3) := dk_160 0 20 (dk_at dksX7_isMarked_0 12 rfl rfl)
theorem dX7_isMarked_15 : decode cX7_isMarked 15 = .ok (.aload_n 0, 1) := dk_42 (dk_at dksX7_isMarked_0 15 rfl rfl)
theorem dX7_isMarked_16 : decode cX7_isMarked 16 = .ok (.getfield 63, 3) := dk_180 0 63 (dk_at dksX7_isMarked_0 16 rfl rfl)
theorem dX7_isMarked_19 : decode cX7_isMarked 19 = .ok (.aload_n 0, 1) := dk_42 (dk_at dksX7_isMarked_0 19 rfl rfl)
theorem dX7_isMarked_20 : decode cX7_isMarked 20 = .ok (.getfield 166, 3) := dk_180 0 166 (dk_at dksX7_isMarked_0 20 rfl rfl)
theorem dX7_isMarked_23 : decode cX7_isMarked 23 = .ok (.iaload, 1) := dk_46 (dk_at dksX7_isMarked_0 23 rfl rfl)
theorem dX7_isMarked_24 : decode cX7_isMarked 24 = .ok (.iload_n 1, 1) := dk_27 (dk_at dksX7_isMarked_1 0 rfl rfl)
theorem dX7_isMarked_25 : decode cX7_isMarked 25 = .ok (.if_icmp .ne 7, 3) := dk_160 0 7 (dk_at dksX7_isMarked_1 1 rfl rfl)
theorem dX7_isMarked_28 : decode cX7_isMarked 28 = .ok (.iconst 1, 1) := dk_4 (dk_at dksX7_isMarked_1 4 rfl rfl)
theorem dX7_isMarked_29 : decode cX7_isMarked 29 = .ok (.goto 4, 3) := dk_167 0 4 (dk_at dksX7_isMarked_1 5 rfl rfl)
theorem dX7_isMarked_32 : decode cX7_isMarked 32 = .ok (.iconst 0, 1) := dk_3 (dk_at dksX7_isMarked_1 8 rfl rfl)
theorem dX7_isMarked_33 : decode cX7_isMarked 33 = .ok (.ireturn, 1) := dk_172 (dk_at dksX7_isMarked_1 9 rfl rfl)
abbrev cX7_readAnd : ByteArray := prog_20_method_26_code
def yX7_readAnd : MethodName := ⟨RX7, "readAnd", "(I)V"⟩
def dkwX7_readAnd_1 : List UInt8 := [16, 230, 182, 0, 226, 167, 255, 232, 177]
abbrev dktX7_readAnd_1 : List UInt8 := dkwX7_readAnd_1 ++ []
def dkwX7_readAnd_0 : List UInt8 := [42, 27, 182, 0, 250, 42, 18, 253, 182, 0, 209, 153, 0, 21, 42, 182, 0, 220, 42, 27, 182, 0, 250, 42]
abbrev dktX7_readAnd_0 : List UInt8 := dkwX7_readAnd_0 ++ dktX7_readAnd_1
theorem dksX7_readAnd_0 : cX7_readAnd.data.toList.drop 0 = dktX7_readAnd_0 := by decide +kernel
theorem dksX7_readAnd_1 : cX7_readAnd.data.toList.drop 24 = dktX7_readAnd_1 := dk_seg dksX7_readAnd_0 24 rfl rfl
theorem dX7_readAnd_0 : decode cX7_readAnd 0 = .ok (.aload_n 0, 1) := dk_42 (dk_at dksX7_readAnd_0 0 rfl rfl)
theorem dX7_readAnd_1 : decode cX7_readAnd 1 = .ok (.iload_n 1, 1) := dk_27 (dk_at dksX7_readAnd_0 1 rfl rfl)
theorem dX7_readAnd_2 : decode cX7_readAnd 2 = .ok (.invokevirtual 250, 3) := dk_182 0 250 (dk_at dksX7_readAnd_0 2 rfl rfl)
theorem dX7_readAnd_5 : decode cX7_readAnd 5 = .ok (.aload_n 0, 1) := dk_42 (dk_at dksX7_readAnd_0 5 rfl rfl)
theorem dX7_readAnd_6 : decode cX7_readAnd 6 = .ok (.ldc 253, 2) := dk_18 253 (dk_at dksX7_readAnd_0 6 rfl rfl)
theorem dX7_readAnd_8 : decode cX7_readAnd 8 = .ok (.invokevirtual 209, 3) := dk_182 0 209 (dk_at dksX7_readAnd_0 8 rfl rfl)
theorem dX7_readAnd_11 : decode cX7_readAnd 11 = .ok (.ifCond .eq 21, 3) := dk_153 0 21 (dk_at dksX7_readAnd_0 11 rfl rfl)
theorem dX7_readAnd_14 : decode cX7_readAnd 14 = .ok (.aload_n 0, 1) := dk_42 (dk_at dksX7_readAnd_0 14 rfl rfl)
theorem dX7_readAnd_15 : decode cX7_readAnd 15 = .ok (.invokevirtual 220, 3) := dk_182 0 220 (dk_at dksX7_readAnd_0 15 rfl rfl)
theorem dX7_readAnd_18 : decode cX7_readAnd 18 = .ok (.aload_n 0, 1) := dk_42 (dk_at dksX7_readAnd_0 18 rfl rfl)
theorem dX7_readAnd_19 : decode cX7_readAnd 19 = .ok (.iload_n 1, 1) := dk_27 (dk_at dksX7_readAnd_0 19 rfl rfl)
theorem dX7_readAnd_20 : decode cX7_readAnd 20 = .ok (.invokevirtual 250, 3) := dk_182 0 250 (dk_at dksX7_readAnd_0 20 rfl rfl)
theorem dX7_readAnd_23 : decode cX7_readAnd 23 = .ok (.aload_n 0, 1) := dk_42 (dk_at dksX7_readAnd_0 23 rfl rfl)
theorem dX7_readAnd_24 : decode cX7_readAnd 24 = .ok (.bipush (-26), 2) := dk_16 230 (dk_at dksX7_readAnd_1 0 rfl rfl)
theorem dX7_readAnd_26 : decode cX7_readAnd 26 = .ok (.invokevirtual 226, 3) := dk_182 0 226 (dk_at dksX7_readAnd_1 2 rfl rfl)
theorem dX7_readAnd_29 : decode cX7_readAnd 29 = .ok (.goto (-24), 3) := dk_167 255 232 (dk_at dksX7_readAnd_1 5 rfl rfl)
theorem dX7_readAnd_32 : decode cX7_readAnd 32 = .ok (.return_, 1) := dk_177 (dk_at dksX7_readAnd_1 8 rfl rfl)
abbrev cX7_readNot : ByteArray := prog_20_method_25_code
def yX7_readNot : MethodName := ⟨RX7, "readNot", "(I)V"⟩
def dkwX7_readNot_4 : List UInt8 := [182, 0, 226, 3, 62, 29, 28, 162, 0, 15, 42, 16, 228, 182, 0, 226, 132, 3, 1, 167, 255, 242, 177]
abbrev dktX7_readNot_4 : List UInt8 := dkwX7_readNot_4 ++ []
def dkwX7_readNot_3 : List UInt8 := [153, 0, 8, 16, 232, 167, 0, 5, 16, 231, 62, 42, 182, 0, 220, 42, 27, 182, 0, 247, 42, 29]
abbrev dktX7_readNot_3 : List UInt8 := dkwX7_readNot_3 ++ dktX7_readNot_4
def dkwX7_readNot_2 : List UInt8 := [16, 60, 182, 0, 213, 154, 0, 12, 42, 16, 61, 182, 0, 213, 153, 0, 34, 42, 16, 60, 182, 0, 213]
abbrev dktX7_readNot_2 : List UInt8 := dkwX7_readNot_2 ++ dktX7_readNot_3
def dkwX7_readNot_1 : List UInt8 := [132, 2, 1, 42, 180, 0, 195, 154, 255, 229, 42, 182, 0, 220, 167, 255, 222, 42, 27, 182, 0, 247, 42]
abbrev dktX7_readNot_1 : List UInt8 := dkwX7_readNot_1 ++ dktX7_readNot_2
def dkwX7_readNot_0 : List UInt8 := [3, 61, 42, 18, 245, 182, 0, 209, 153, 0, 31, 28, 16, 6, 160, 0, 8, 42, 5, 182, 0, 216]
abbrev dktX7_readNot_0 : List UInt8 := dkwX7_readNot_0 ++ dktX7_readNot_1
theorem dksX7_readNot_0 : cX7_readNot.data.toList.drop 0 = dktX7_readNot_0 := by decide +kernel
theorem dksX7_readNot_1 : cX7_readNot.data.toList.drop 22 = dktX7_readNot_1 := dk_seg dksX7_readNot_0 22 rfl rfl
theorem dksX7_readNot_2 : cX7_readNot.data.toList.drop 45 = dktX7_readNot_2 := dk_seg dksX7_readNot_1 23 rfl rfl
theorem dksX7_readNot_3 : cX7_readNot.data.toList.drop 68 = dktX7_readNot_3 := dk_seg dksX7_readNot_2 23 rfl rfl
theorem dksX7_readNot_4 : cX7_readNot.data.toList.drop 90 = dktX7_readNot_4 := dk_seg dksX7_readNot_3 22 rfl rfl
theorem dX7_readNot_0 : decode cX7_readNot 0 = .ok (.iconst 0, 1) := dk_3 (dk_at dksX7_readNot_0 0 rfl rfl)
theorem dX7_readNot_1 : decode cX7_readNot 1 = .ok (.istore_n 2, 1) := dk_61 (dk_at dksX7_readNot_0 1 rfl rfl)
theorem dX7_readNot_2 : decode cX7_readNot 2 = .ok (.aload_n 0, 1) := dk_42 (dk_at dksX7_readNot_0 2 rfl rfl)
theorem dX7_readNot_3 : decode cX7_readNot 3 = .ok (.ldc 245, 2) := dk_18 245 (dk_at dksX7_readNot_0 3 rfl rfl)
theorem dX7_readNot_5 : decode cX7_readNot 5 = .ok (.invokevirtual 209, 3) := dk_182 0 209 (dk_at dksX7_readNot_0 5 rfl rfl)
theorem dX7_readNot_8 : decode cX7_readNot 8 = .ok (.ifCond .eq 31, 3) := dk_153 0 31 (dk_at dksX7_readNot_0 8 rfl rfl)
theorem dX7_readNot_11 : decode cX7_readNot 11 = .ok (.iload_n 2, 1) := dk_28 (dk_at dksX7_readNot_0 11 rfl rfl)
theorem dX7_readNot_12 : decode cX7_readNot 12 = .ok (.bipush 6, 2) := dk_16 6 (dk_at dksX7_readNot_0 12 rfl rfl)
theorem dX7_readNot_14 : decode cX7_readNot 14 = .ok (.if_icmp .ne 8, 3) := dk_160 0 8 (dk_at dksX7_readNot_0 14 rfl rfl)
theorem dX7_readNot_17 : decode cX7_readNot 17 = .ok (.aload_n 0, 1) := dk_42 (dk_at dksX7_readNot_0 17 rfl rfl)
theorem dX7_readNot_18 : decode cX7_readNot 18 = .ok (.iconst 2, 1) := dk_5 (dk_at dksX7_readNot_0 18 rfl rfl)
theorem dX7_readNot_19 : decode cX7_readNot 19 = .ok (.invokevirtual 216, 3) := dk_182 0 216 (dk_at dksX7_readNot_0 19 rfl rfl)
theorem dX7_readNot_22 : decode cX7_readNot 22 = .ok (.iinc 2 1, 3) := dk_132 2 1 (dk_at dksX7_readNot_1 0 rfl rfl)
theorem dX7_readNot_25 : decode cX7_readNot 25 = .ok (.aload_n 0, 1) := dk_42 (dk_at dksX7_readNot_1 3 rfl rfl)
theorem dX7_readNot_26 : decode cX7_readNot 26 = .ok (.getfield 195, 3) := dk_180 0 195 (dk_at dksX7_readNot_1 4 rfl rfl)
theorem dX7_readNot_29 : decode cX7_readNot 29 = .ok (.ifCond .ne (-27), 3) := dk_154 255 229 (dk_at dksX7_readNot_1 7 rfl rfl)
theorem dX7_readNot_32 : decode cX7_readNot 32 = .ok (.aload_n 0, 1) := dk_42 (dk_at dksX7_readNot_1 10 rfl rfl)
theorem dX7_readNot_33 : decode cX7_readNot 33 = .ok (.invokevirtual 220, 3) := dk_182 0 220 (dk_at dksX7_readNot_1 11 rfl rfl)
theorem dX7_readNot_36 : decode cX7_readNot 36 = .ok (.goto (-34), 3) := dk_167 255 222 (dk_at dksX7_readNot_1 14 rfl rfl)
theorem dX7_readNot_39 : decode cX7_readNot 39 = .ok (.aload_n 0, 1) := dk_42 (dk_at dksX7_readNot_1 17 rfl rfl)
theorem dX7_readNot_40 : decode cX7_readNot 40 = .ok (.iload_n 1, 1) := dk_27 (dk_at dksX7_readNot_1 18 rfl rfl)
theorem dX7_readNot_41 : decode cX7_readNot 41 = .ok (.invokevirtual 247, 3) := dk_182 0 247 (dk_at dksX7_readNot_1 19 rfl rfl)
theorem dX7_readNot_44 : decode cX7_readNot 44 = .ok (.aload_n 0, 1) := dk_42 (dk_at dksX7_readNot_1 22 rfl rfl)
theorem dX7_readNot_45 : decode cX7_readNot 45 = .ok (.bipush 60, 2) := dk_16 60 (dk_at dksX7_readNot_2 0 rfl rfl)
theorem dX7_readNot_47 : decode cX7_readNot 47 = .ok (.invokevirtual 213, 3) := dk_182 0 213 (dk_at dksX7_readNot_2 2 rfl rfl)
theorem dX7_readNot_50 : decode cX7_readNot 50 = .ok (.ifCond .ne 12, 3) := dk_154 0 12 (dk_at dksX7_readNot_2 5 rfl rfl)
theorem dX7_readNot_53 : decode cX7_readNot 53 = .ok (.aload_n 0, 1) := dk_42 (dk_at dksX7_readNot_2 8 rfl rfl)
theorem dX7_readNot_54 : decode cX7_readNot 54 = .ok (.bipush 61, 2) := dk_16 61 (dk_at dksX7_readNot_2 9 rfl rfl)
theorem dX7_readNot_56 : decode cX7_readNot 56 = .ok (.invokevirtual 213, 3) := dk_182 0 213 (dk_at dksX7_readNot_2 11 rfl rfl)
theorem dX7_readNot_59 : decode cX7_readNot 59 = .ok (.ifCond .eq 34, 3) := dk_153 0 34 (dk_at dksX7_readNot_2 14 rfl rfl)
theorem dX7_readNot_62 : decode cX7_readNot 62 = .ok (.aload_n 0, 1) := dk_42 (dk_at dksX7_readNot_2 17 rfl rfl)
theorem dX7_readNot_63 : decode cX7_readNot 63 = .ok (.bipush 60, 2) := dk_16 60 (dk_at dksX7_readNot_2 18 rfl rfl)
theorem dX7_readNot_65 : decode cX7_readNot 65 = .ok (.invokevirtual 213, 3) := dk_182 0 213 (dk_at dksX7_readNot_2 20 rfl rfl)
theorem dX7_readNot_68 : decode cX7_readNot 68 = .ok (.ifCond .eq 8, 3) := dk_153 0 8 (dk_at dksX7_readNot_3 0 rfl rfl)
theorem dX7_readNot_71 : decode cX7_readNot 71 = .ok (.bipush (-24), 2) := dk_16 232 (dk_at dksX7_readNot_3 3 rfl rfl)
theorem dX7_readNot_73 : decode cX7_readNot 73 = .ok (.goto 5, 3) := dk_167 0 5 (dk_at dksX7_readNot_3 5 rfl rfl)
theorem dX7_readNot_76 : decode cX7_readNot 76 = .ok (.bipush (-25), 2) := dk_16 231 (dk_at dksX7_readNot_3 8 rfl rfl)
theorem dX7_readNot_78 : decode cX7_readNot 78 = .ok (.istore_n 3, 1) := dk_62 (dk_at dksX7_readNot_3 10 rfl rfl)
theorem dX7_readNot_79 : decode cX7_readNot 79 = .ok (.aload_n 0, 1) := dk_42 (dk_at dksX7_readNot_3 11 rfl rfl)
theorem dX7_readNot_80 : decode cX7_readNot 80 = .ok (.invokevirtual 220, 3) := dk_182 0 220 (dk_at dksX7_readNot_3 12 rfl rfl)
theorem dX7_readNot_83 : decode cX7_readNot 83 = .ok (.aload_n 0, 1) := dk_42 (dk_at dksX7_readNot_3 15 rfl rfl)
theorem dX7_readNot_84 : decode cX7_readNot 84 = .ok (.iload_n 1, 1) := dk_27 (dk_at dksX7_readNot_3 16 rfl rfl)
theorem dX7_readNot_85 : decode cX7_readNot 85 = .ok (.invokevirtual 247, 3) := dk_182 0 247 (dk_at dksX7_readNot_3 17 rfl rfl)
theorem dX7_readNot_88 : decode cX7_readNot 88 = .ok (.aload_n 0, 1) := dk_42 (dk_at dksX7_readNot_3 20 rfl rfl)
theorem dX7_readNot_89 : decode cX7_readNot 89 = .ok (.iload_n 3, 1) := dk_29 (dk_at dksX7_readNot_3 21 rfl rfl)
theorem dX7_readNot_90 : decode cX7_readNot 90 = .ok (.invokevirtual 226, 3) := dk_182 0 226 (dk_at dksX7_readNot_4 0 rfl rfl)
theorem dX7_readNot_93 : decode cX7_readNot 93 = .ok (.iconst 0, 1) := dk_3 (dk_at dksX7_readNot_4 3 rfl rfl)
theorem dX7_readNot_94 : decode cX7_readNot 94 = .ok (.istore_n 3, 1) := dk_62 (dk_at dksX7_readNot_4 4 rfl rfl)
theorem dX7_readNot_95 : decode cX7_readNot 95 = .ok (.iload_n 3, 1) := dk_29 (dk_at dksX7_readNot_4 5 rfl rfl)
theorem dX7_readNot_96 : decode cX7_readNot 96 = .ok (.iload_n 2, 1) := dk_28 (dk_at dksX7_readNot_4 6 rfl rfl)
theorem dX7_readNot_97 : decode cX7_readNot 97 = .ok (.if_icmp .ge 15, 3) := dk_162 0 15 (dk_at dksX7_readNot_4 7 rfl rfl)
theorem dX7_readNot_100 : decode cX7_readNot 100 = .ok (.aload_n 0, 1) := dk_42 (dk_at dksX7_readNot_4 10 rfl rfl)
theorem dX7_readNot_101 : decode cX7_readNot 101 = .ok (.bipush (-28), 2) := dk_16 228 (dk_at dksX7_readNot_4 11 rfl rfl)
theorem dX7_readNot_103 : decode cX7_readNot 103 = .ok (.invokevirtual 226, 3) := dk_182 0 226 (dk_at dksX7_readNot_4 13 rfl rfl)
theorem dX7_readNot_106 : decode cX7_readNot 106 = .ok (.iinc 3 1, 3) := dk_132 3 1 (dk_at dksX7_readNot_4 16 rfl rfl)
theorem dX7_readNot_109 : decode cX7_readNot 109 = .ok (.goto (-14), 3) := dk_167 255 242 (dk_at dksX7_readNot_4 19 rfl rfl)
theorem dX7_readNot_112 : decode cX7_readNot 112 = .ok (.return_, 1) := dk_177 (dk_at dksX7_readNot_4 22 rfl rfl)
abbrev cX7_readSum : ByteArray := prog_20_method_24_code
def yX7_readSum : MethodName := ⟨RX7, "readSum", "(I)V"⟩
def dkwX7_readSum_2 : List UInt8 := [182, 0, 242, 42, 28, 182, 0, 226, 167, 255, 207, 177]
abbrev dktX7_readSum_2 : List UInt8 := dkwX7_readSum_2 ++ []
def dkwX7_readSum_1 : List UInt8 := [16, 43, 182, 0, 213, 153, 0, 8, 16, 236, 167, 0, 5, 16, 235, 61, 42, 182, 0, 220, 42, 27]
abbrev dktX7_readSum_1 : List UInt8 := dkwX7_readSum_1 ++ dktX7_readSum_2
def dkwX7_readSum_0 : List UInt8 := [42, 27, 182, 0, 242, 42, 16, 43, 182, 0, 213, 154, 0, 12, 42, 16, 45, 182, 0, 213, 153, 0, 37, 42]
abbrev dktX7_readSum_0 : List UInt8 := dkwX7_readSum_0 ++ dktX7_readSum_1
theorem dksX7_readSum_0 : cX7_readSum.data.toList.drop 0 = dktX7_readSum_0 := by decide +kernel
theorem dksX7_readSum_1 : cX7_readSum.data.toList.drop 24 = dktX7_readSum_1 := dk_seg dksX7_readSum_0 24 rfl rfl
theorem dksX7_readSum_2 : cX7_readSum.data.toList.drop 46 = dktX7_readSum_2 := dk_seg dksX7_readSum_1 22 rfl rfl
theorem dX7_readSum_0 : decode cX7_readSum 0 = .ok (.aload_n 0, 1) := dk_42 (dk_at dksX7_readSum_0 0 rfl rfl)
theorem dX7_readSum_1 : decode cX7_readSum 1 = .ok (.iload_n 1, 1) := dk_27 (dk_at dksX7_readSum_0 1 rfl rfl)
theorem dX7_readSum_2 : decode cX7_readSum 2 = .ok (.invokevirtual 242, 3) := dk_182 0 242 (dk_at dksX7_readSum_0 2 rfl rfl)
theorem dX7_readSum_5 : decode cX7_readSum 5 = .ok (.aload_n 0, 1) := dk_42 (dk_at dksX7_readSum_0 5 rfl rfl)
theorem dX7_readSum_6 : decode cX7_readSum 6 = .ok (.bipush 43, 2) := dk_16 43 (dk_at dksX7_readSum_0 6 rfl rfl)
theorem dX7_readSum_8 : decode cX7_readSum 8 = .ok (.invokevirtual 213, 3) := dk_182 0 213 (dk_at dksX7_readSum_0 8 rfl rfl)
theorem dX7_readSum_11 : decode cX7_readSum 11 = .ok (.ifCond .ne 12, 3) := dk_154 0 12 (dk_at dksX7_readSum_0 11 rfl rfl)
theorem dX7_readSum_14 : decode cX7_readSum 14 = .ok (.aload_n 0, 1) := dk_42 (dk_at dksX7_readSum_0 14 rfl rfl)
theorem dX7_readSum_15 : decode cX7_readSum 15 = .ok (.bipush 45, 2) := dk_16 45 (dk_at dksX7_readSum_0 15 rfl rfl)
theorem dX7_readSum_17 : decode cX7_readSum 17 = .ok (.invokevirtual 213, 3) := dk_182 0 213 (dk_at dksX7_readSum_0 17 rfl rfl)
theorem dX7_readSum_20 : decode cX7_readSum 20 = .ok (.ifCond .eq 37, 3) := dk_153 0 37 (dk_at dksX7_readSum_0 20 rfl rfl)
theorem dX7_readSum_23 : decode cX7_readSum 23 = .ok (.aload_n 0, 1) := dk_42 (dk_at dksX7_readSum_0 23 rfl rfl)
theorem dX7_readSum_24 : decode cX7_readSum 24 = .ok (.bipush 43, 2) := dk_16 43 (dk_at dksX7_readSum_1 0 rfl rfl)
theorem dX7_readSum_26 : decode cX7_readSum 26 = .ok (.invokevirtual 213, 3) := dk_182 0 213 (dk_at dksX7_readSum_1 2 rfl rfl)
theorem dX7_readSum_29 : decode cX7_readSum 29 = .ok (.ifCond .eq 8, 3) := dk_153 0 8 (dk_at dksX7_readSum_1 5 rfl rfl)
theorem dX7_readSum_32 : decode cX7_readSum 32 = .ok (.bipush (-20), 2) := dk_16 236 (dk_at dksX7_readSum_1 8 rfl rfl)
theorem dX7_readSum_34 : decode cX7_readSum 34 = .ok (.goto 5, 3) := dk_167 0 5 (dk_at dksX7_readSum_1 10 rfl rfl)
theorem dX7_readSum_37 : decode cX7_readSum 37 = .ok (.bipush (-21), 2) := dk_16 235 (dk_at dksX7_readSum_1 13 rfl rfl)
theorem dX7_readSum_39 : decode cX7_readSum 39 = .ok (.istore_n 2, 1) := dk_61 (dk_at dksX7_readSum_1 15 rfl rfl)
theorem dX7_readSum_40 : decode cX7_readSum 40 = .ok (.aload_n 0, 1) := dk_42 (dk_at dksX7_readSum_1 16 rfl rfl)
theorem dX7_readSum_41 : decode cX7_readSum 41 = .ok (.invokevirtual 220, 3) := dk_182 0 220 (dk_at dksX7_readSum_1 17 rfl rfl)
theorem dX7_readSum_44 : decode cX7_readSum 44 = .ok (.aload_n 0, 1) := dk_42 (dk_at dksX7_readSum_1 20 rfl rfl)
theorem dX7_readSum_45 : decode cX7_readSum 45 = .ok (.iload_n 1, 1) := dk_27 (dk_at dksX7_readSum_1 21 rfl rfl)
theorem dX7_readSum_46 : decode cX7_readSum 46 = .ok (.invokevirtual 242, 3) := dk_182 0 242 (dk_at dksX7_readSum_2 0 rfl rfl)
theorem dX7_readSum_49 : decode cX7_readSum 49 = .ok (.aload_n 0, 1) := dk_42 (dk_at dksX7_readSum_2 3 rfl rfl)
theorem dX7_readSum_50 : decode cX7_readSum 50 = .ok (.iload_n 2, 1) := dk_28 (dk_at dksX7_readSum_2 4 rfl rfl)
theorem dX7_readSum_51 : decode cX7_readSum 51 = .ok (.invokevirtual 226, 3) := dk_182 0 226 (dk_at dksX7_readSum_2 5 rfl rfl)
theorem dX7_readSum_54 : decode cX7_readSum 54 = .ok (.goto (-49), 3) := dk_167 255 207 (dk_at dksX7_readSum_2 8 rfl rfl)
theorem dX7_readSum_57 : decode cX7_readSum 57 = .ok (.return_, 1) := dk_177 (dk_at dksX7_readSum_2 11 rfl rfl)
abbrev cX7_readProduct : ByteArray := prog_20_method_23_code
def yX7_readProduct : MethodName := ⟨RX7, "readProduct", "(I)V"⟩
def dkwX7_readProduct_2 : List UInt8 := [182, 0, 239, 42, 28, 182, 0, 226, 167, 255, 207, 177]
abbrev dktX7_readProduct_2 : List UInt8 := dkwX7_readProduct_2 ++ []
def dkwX7_readProduct_1 : List UInt8 := [16, 42, 182, 0, 213, 153, 0, 8, 16, 234, 167, 0, 5, 16, 233, 61, 42, 182, 0, 220, 42, 27]
abbrev dktX7_readProduct_1 : List UInt8 := dkwX7_readProduct_1 ++ dktX7_readProduct_2
def dkwX7_readProduct_0 : List UInt8 := [42, 27, 182, 0, 239, 42, 16, 42, 182, 0, 213, 154, 0, 12, 42, 16, 47, 182, 0, 213, 153, 0, 37, 42]
abbrev dktX7_readProduct_0 : List UInt8 := dkwX7_readProduct_0 ++ dktX7_readProduct_1
theorem dksX7_readProduct_0 : cX7_readProduct.data.toList.drop 0 = dktX7_readProduct_0 := by decide +kernel
theorem dksX7_readProduct_1 : cX7_readProduct.data.toList.drop 24 = dktX7_readProduct_1 := dk_seg dksX7_readProduct_0 24 rfl rfl
theorem dksX7_readProduct_2 : cX7_readProduct.data.toList.drop 46 = dktX7_readProduct_2 := dk_seg dksX7_readProduct_1 22 rfl rfl
theorem dX7_readProduct_0 : decode cX7_readProduct 0 = .ok (.aload_n 0, 1) := dk_42 (dk_at dksX7_readProduct_0 0 rfl rfl)
theorem dX7_readProduct_1 : decode cX7_readProduct 1 = .ok (.iload_n 1, 1) := dk_27 (dk_at dksX7_readProduct_0 1 rfl rfl)
theorem dX7_readProduct_2 : decode cX7_readProduct 2 = .ok (.invokevirtual 239, 3) := dk_182 0 239 (dk_at dksX7_readProduct_0 2 rfl rfl)
theorem dX7_readProduct_5 : decode cX7_readProduct 5 = .ok (.aload_n 0, 1) := dk_42 (dk_at dksX7_readProduct_0 5 rfl rfl)
theorem dX7_readProduct_6 : decode cX7_readProduct 6 = .ok (.bipush 42, 2) := dk_16 42 (dk_at dksX7_readProduct_0 6 rfl rfl)
theorem dX7_readProduct_8 : decode cX7_readProduct 8 = .ok (.invokevirtual 213, 3) := dk_182 0 213 (dk_at dksX7_readProduct_0 8 rfl rfl)
theorem dX7_readProduct_11 : decode cX7_readProduct 11 = .ok (.ifCond .ne 12, 3) := dk_154 0 12 (dk_at dksX7_readProduct_0 11 rfl rfl)
theorem dX7_readProduct_14 : decode cX7_readProduct 14 = .ok (.aload_n 0, 1) := dk_42 (dk_at dksX7_readProduct_0 14 rfl rfl)
theorem dX7_readProduct_15 : decode cX7_readProduct 15 = .ok (.bipush 47, 2) := dk_16 47 (dk_at dksX7_readProduct_0 15 rfl rfl)
theorem dX7_readProduct_17 : decode cX7_readProduct 17 = .ok (.invokevirtual 213, 3) := dk_182 0 213 (dk_at dksX7_readProduct_0 17 rfl rfl)
theorem dX7_readProduct_20 : decode cX7_readProduct 20 = .ok (.ifCond .eq 37, 3) := dk_153 0 37 (dk_at dksX7_readProduct_0 20 rfl rfl)
theorem dX7_readProduct_23 : decode cX7_readProduct 23 = .ok (.aload_n 0, 1) := dk_42 (dk_at dksX7_readProduct_0 23 rfl rfl)
theorem dX7_readProduct_24 : decode cX7_readProduct 24 = .ok (.bipush 42, 2) := dk_16 42 (dk_at dksX7_readProduct_1 0 rfl rfl)
theorem dX7_readProduct_26 : decode cX7_readProduct 26 = .ok (.invokevirtual 213, 3) := dk_182 0 213 (dk_at dksX7_readProduct_1 2 rfl rfl)
theorem dX7_readProduct_29 : decode cX7_readProduct 29 = .ok (.ifCond .eq 8, 3) := dk_153 0 8 (dk_at dksX7_readProduct_1 5 rfl rfl)
theorem dX7_readProduct_32 : decode cX7_readProduct 32 = .ok (.bipush (-22), 2) := dk_16 234 (dk_at dksX7_readProduct_1 8 rfl rfl)
theorem dX7_readProduct_34 : decode cX7_readProduct 34 = .ok (.goto 5, 3) := dk_167 0 5 (dk_at dksX7_readProduct_1 10 rfl rfl)
theorem dX7_readProduct_37 : decode cX7_readProduct 37 = .ok (.bipush (-23), 2) := dk_16 233 (dk_at dksX7_readProduct_1 13 rfl rfl)
theorem dX7_readProduct_39 : decode cX7_readProduct 39 = .ok (.istore_n 2, 1) := dk_61 (dk_at dksX7_readProduct_1 15 rfl rfl)
theorem dX7_readProduct_40 : decode cX7_readProduct 40 = .ok (.aload_n 0, 1) := dk_42 (dk_at dksX7_readProduct_1 16 rfl rfl)
theorem dX7_readProduct_41 : decode cX7_readProduct 41 = .ok (.invokevirtual 220, 3) := dk_182 0 220 (dk_at dksX7_readProduct_1 17 rfl rfl)
theorem dX7_readProduct_44 : decode cX7_readProduct 44 = .ok (.aload_n 0, 1) := dk_42 (dk_at dksX7_readProduct_1 20 rfl rfl)
theorem dX7_readProduct_45 : decode cX7_readProduct 45 = .ok (.iload_n 1, 1) := dk_27 (dk_at dksX7_readProduct_1 21 rfl rfl)
theorem dX7_readProduct_46 : decode cX7_readProduct 46 = .ok (.invokevirtual 239, 3) := dk_182 0 239 (dk_at dksX7_readProduct_2 0 rfl rfl)
theorem dX7_readProduct_49 : decode cX7_readProduct 49 = .ok (.aload_n 0, 1) := dk_42 (dk_at dksX7_readProduct_2 3 rfl rfl)
theorem dX7_readProduct_50 : decode cX7_readProduct 50 = .ok (.iload_n 2, 1) := dk_28 (dk_at dksX7_readProduct_2 4 rfl rfl)
theorem dX7_readProduct_51 : decode cX7_readProduct 51 = .ok (.invokevirtual 226, 3) := dk_182 0 226 (dk_at dksX7_readProduct_2 5 rfl rfl)
theorem dX7_readProduct_54 : decode cX7_readProduct 54 = .ok (.goto (-49), 3) := dk_167 255 207 (dk_at dksX7_readProduct_2 8 rfl rfl)
theorem dX7_readProduct_57 : decode cX7_readProduct 57 = .ok (.return_, 1) := dk_177 (dk_at dksX7_readProduct_2 11 rfl rfl)
abbrev cX7_readPart : ByteArray := prog_20_method_22_code
def yX7_readPart : MethodName := ⟨RX7, "readPart", "(I)V"⟩
def dkwX7_readPart_4 : List UInt8 := [177]
abbrev dktX7_readPart_4 : List UInt8 := dkwX7_readPart_4 ++ []
def dkwX7_readPart_3 : List UInt8 := [42, 182, 0, 220, 177, 42, 16, 40, 182, 0, 233, 42, 27, 4, 96, 182, 0, 236, 42, 16, 41, 182, 0, 233]
abbrev dktX7_readPart_3 : List UInt8 := dkwX7_readPart_3 ++ dktX7_readPart_4
def dkwX7_readPart_2 : List UInt8 := [28, 2, 160, 0, 8, 42, 6, 182, 0, 216, 42, 2, 28, 100, 182, 0, 226, 42, 180, 0, 195, 154, 0, 7]
abbrev dktX7_readPart_2 : List UInt8 := dkwX7_readPart_2 ++ dktX7_readPart_3
def dkwX7_readPart_1 : List UInt8 := [182, 0, 223, 182, 0, 226, 177, 42, 180, 0, 169, 4, 160, 0, 41, 42, 42, 180, 0, 35, 182, 0, 229, 61]
abbrev dktX7_readPart_1 : List UInt8 := dkwX7_readPart_1 ++ dktX7_readPart_2
def dkwX7_readPart_0 : List UInt8 := [42, 180, 0, 195, 153, 0, 4, 177, 42, 180, 0, 169, 5, 160, 0, 16, 42, 42, 3, 17, 39, 15]
abbrev dktX7_readPart_0 : List UInt8 := dkwX7_readPart_0 ++ dktX7_readPart_1
theorem dksX7_readPart_0 : cX7_readPart.data.toList.drop 0 = dktX7_readPart_0 := by decide +kernel
theorem dksX7_readPart_1 : cX7_readPart.data.toList.drop 22 = dktX7_readPart_1 := dk_seg dksX7_readPart_0 22 rfl rfl
theorem dksX7_readPart_2 : cX7_readPart.data.toList.drop 46 = dktX7_readPart_2 := dk_seg dksX7_readPart_1 24 rfl rfl
theorem dksX7_readPart_3 : cX7_readPart.data.toList.drop 70 = dktX7_readPart_3 := dk_seg dksX7_readPart_2 24 rfl rfl
theorem dksX7_readPart_4 : cX7_readPart.data.toList.drop 94 = dktX7_readPart_4 := dk_seg dksX7_readPart_3 24 rfl rfl
theorem dX7_readPart_0 : decode cX7_readPart 0 = .ok (.aload_n 0, 1) := dk_42 (dk_at dksX7_readPart_0 0 rfl rfl)
theorem dX7_readPart_1 : decode cX7_readPart 1 = .ok (.getfield 195, 3) := dk_180 0 195 (dk_at dksX7_readPart_0 1 rfl rfl)
theorem dX7_readPart_4 : decode cX7_readPart 4 = .ok (.ifCond .eq 4, 3) := dk_153 0 4 (dk_at dksX7_readPart_0 4 rfl rfl)
theorem dX7_readPart_7 : decode cX7_readPart 7 = .ok (.return_, 1) := dk_177 (dk_at dksX7_readPart_0 7 rfl rfl)
theorem dX7_readPart_8 : decode cX7_readPart 8 = .ok (.aload_n 0, 1) := dk_42 (dk_at dksX7_readPart_0 8 rfl rfl)
theorem dX7_readPart_9 : decode cX7_readPart 9 = .ok (.getfield 169, 3) := dk_180 0 169 (dk_at dksX7_readPart_0 9 rfl rfl)
theorem dX7_readPart_12 : decode cX7_readPart 12 = .ok (.iconst 2, 1) := dk_5 (dk_at dksX7_readPart_0 12 rfl rfl)
theorem dX7_readPart_13 : decode cX7_readPart 13 = .ok (.if_icmp .ne 16, 3) := dk_160 0 16 (dk_at dksX7_readPart_0 13 rfl rfl)
theorem dX7_readPart_16 : decode cX7_readPart 16 = .ok (.aload_n 0, 1) := dk_42 (dk_at dksX7_readPart_0 16 rfl rfl)
theorem dX7_readPart_17 : decode cX7_readPart 17 = .ok (.aload_n 0, 1) := dk_42 (dk_at dksX7_readPart_0 17 rfl rfl)
theorem dX7_readPart_18 : decode cX7_readPart 18 = .ok (.iconst 0, 1) := dk_3 (dk_at dksX7_readPart_0 18 rfl rfl)
theorem dX7_readPart_19 : decode cX7_readPart 19 = .ok (.sipush 9999, 3) := dk_17 39 15 (dk_at dksX7_readPart_0 19 rfl rfl)
theorem dX7_readPart_22 : decode cX7_readPart 22 = .ok (.invokevirtual 223, 3) := dk_182 0 223 (dk_at dksX7_readPart_1 0 rfl rfl)
theorem dX7_readPart_25 : decode cX7_readPart 25 = .ok (.invokevirtual 226, 3) := dk_182 0 226 (dk_at dksX7_readPart_1 3 rfl rfl)
theorem dX7_readPart_28 : decode cX7_readPart 28 = .ok (.return_, 1) := dk_177 (dk_at dksX7_readPart_1 6 rfl rfl)
theorem dX7_readPart_29 : decode cX7_readPart 29 = .ok (.aload_n 0, 1) := dk_42 (dk_at dksX7_readPart_1 7 rfl rfl)
theorem dX7_readPart_30 : decode cX7_readPart 30 = .ok (.getfield 169, 3) := dk_180 0 169 (dk_at dksX7_readPart_1 8 rfl rfl)
theorem dX7_readPart_33 : decode cX7_readPart 33 = .ok (.iconst 1, 1) := dk_4 (dk_at dksX7_readPart_1 11 rfl rfl)
theorem dX7_readPart_34 : decode cX7_readPart 34 = .ok (.if_icmp .ne 41, 3) := dk_160 0 41 (dk_at dksX7_readPart_1 12 rfl rfl)
theorem dX7_readPart_37 : decode cX7_readPart 37 = .ok (.aload_n 0, 1) := dk_42 (dk_at dksX7_readPart_1 15 rfl rfl)
theorem dX7_readPart_38 : decode cX7_readPart 38 = .ok (.aload_n 0, 1) := dk_42 (dk_at dksX7_readPart_1 16 rfl rfl)
theorem dX7_readPart_39 : decode cX7_readPart 39 = .ok (.getfield 35, 3) := dk_180 0 35 (dk_at dksX7_readPart_1 17 rfl rfl)
theorem dX7_readPart_42 : decode cX7_readPart 42 = .ok (.invokevirtual 229, 3) := dk_182 0 229 (dk_at dksX7_readPart_1 20 rfl rfl)
theorem dX7_readPart_45 : decode cX7_readPart 45 = .ok (.istore_n 2, 1) := dk_61 (dk_at dksX7_readPart_1 23 rfl rfl)
theorem dX7_readPart_46 : decode cX7_readPart 46 = .ok (.iload_n 2, 1) := dk_28 (dk_at dksX7_readPart_2 0 rfl rfl)
theorem dX7_readPart_47 : decode cX7_readPart 47 = .ok (.iconst (-1), 1) := dk_2 (dk_at dksX7_readPart_2 1 rfl rfl)
theorem dX7_readPart_48 : decode cX7_readPart 48 = .ok (.if_icmp .ne 8, 3) := dk_160 0 8 (dk_at dksX7_readPart_2 2 rfl rfl)
theorem dX7_readPart_51 : decode cX7_readPart 51 = .ok (.aload_n 0, 1) := dk_42 (dk_at dksX7_readPart_2 5 rfl rfl)
theorem dX7_readPart_52 : decode cX7_readPart 52 = .ok (.iconst 3, 1) := dk_6 (dk_at dksX7_readPart_2 6 rfl rfl)
theorem dX7_readPart_53 : decode cX7_readPart 53 = .ok (.invokevirtual 216, 3) := dk_182 0 216 (dk_at dksX7_readPart_2 7 rfl rfl)
theorem dX7_readPart_56 : decode cX7_readPart 56 = .ok (.aload_n 0, 1) := dk_42 (dk_at dksX7_readPart_2 10 rfl rfl)
theorem dX7_readPart_57 : decode cX7_readPart 57 = .ok (.iconst (-1), 1) := dk_2 (dk_at dksX7_readPart_2 11 rfl rfl)
theorem dX7_readPart_58 : decode cX7_readPart 58 = .ok (.iload_n 2, 1) := dk_28 (dk_at dksX7_readPart_2 12 rfl rfl)
theorem dX7_readPart_59 : decode cX7_readPart 59 = .ok (.isub, 1) := dk_100 (dk_at dksX7_readPart_2 13 rfl rfl)
theorem dX7_readPart_60 : decode cX7_readPart 60 = .ok (.invokevirtual 226, 3) := dk_182 0 226 (dk_at dksX7_readPart_2 14 rfl rfl)
theorem dX7_readPart_63 : decode cX7_readPart 63 = .ok (.aload_n 0, 1) := dk_42 (dk_at dksX7_readPart_2 17 rfl rfl)
theorem dX7_readPart_64 : decode cX7_readPart 64 = .ok (.getfield 195, 3) := dk_180 0 195 (dk_at dksX7_readPart_2 18 rfl rfl)
theorem dX7_readPart_67 : decode cX7_readPart 67 = .ok (.ifCond .ne 7, 3) := dk_154 0 7 (dk_at dksX7_readPart_2 21 rfl rfl)
theorem dX7_readPart_70 : decode cX7_readPart 70 = .ok (.aload_n 0, 1) := dk_42 (dk_at dksX7_readPart_3 0 rfl rfl)
theorem dX7_readPart_71 : decode cX7_readPart 71 = .ok (.invokevirtual 220, 3) := dk_182 0 220 (dk_at dksX7_readPart_3 1 rfl rfl)
theorem dX7_readPart_74 : decode cX7_readPart 74 = .ok (.return_, 1) := dk_177 (dk_at dksX7_readPart_3 4 rfl rfl)
theorem dX7_readPart_75 : decode cX7_readPart 75 = .ok (.aload_n 0, 1) := dk_42 (dk_at dksX7_readPart_3 5 rfl rfl)
theorem dX7_readPart_76 : decode cX7_readPart 76 = .ok (.bipush 40, 2) := dk_16 40 (dk_at dksX7_readPart_3 6 rfl rfl)
theorem dX7_readPart_78 : decode cX7_readPart 78 = .ok (.invokevirtual 233, 3) := dk_182 0 233 (dk_at dksX7_readPart_3 8 rfl rfl)
theorem dX7_readPart_81 : decode cX7_readPart 81 = .ok (.aload_n 0, 1) := dk_42 (dk_at dksX7_readPart_3 11 rfl rfl)
theorem dX7_readPart_82 : decode cX7_readPart 82 = .ok (.iload_n 1, 1) := dk_27 (dk_at dksX7_readPart_3 12 rfl rfl)
theorem dX7_readPart_83 : decode cX7_readPart 83 = .ok (.iconst 1, 1) := dk_4 (dk_at dksX7_readPart_3 13 rfl rfl)
theorem dX7_readPart_84 : decode cX7_readPart 84 = .ok (.iadd, 1) := dk_96 (dk_at dksX7_readPart_3 14 rfl rfl)
theorem dX7_readPart_85 : decode cX7_readPart 85 = .ok (.invokevirtual 236, 3) := dk_182 0 236 (dk_at dksX7_readPart_3 15 rfl rfl)
theorem dX7_readPart_88 : decode cX7_readPart 88 = .ok (.aload_n 0, 1) := dk_42 (dk_at dksX7_readPart_3 18 rfl rfl)
theorem dX7_readPart_89 : decode cX7_readPart 89 = .ok (.bipush 41, 2) := dk_16 41 (dk_at dksX7_readPart_3 19 rfl rfl)
theorem dX7_readPart_91 : decode cX7_readPart 91 = .ok (.invokevirtual 233, 3) := dk_182 0 233 (dk_at dksX7_readPart_3 21 rfl rfl)
theorem dX7_readPart_94 : decode cX7_readPart 94 = .ok (.return_, 1) := dk_177 (dk_at dksX7_readPart_4 0 rfl rfl)
abbrev cX7_lay : ByteArray := prog_20_method_21_code
def yX7_lay : MethodName := ⟨RX7, "lay", "(I)V"⟩
def dkwX7_lay_1 : List UInt8 := [79, 42, 180, 0, 42, 16, 7, 92, 46, 4, 96, 79, 177]
abbrev dktX7_lay_1 : List UInt8 := dkwX7_lay_1 ++ []
def dkwX7_lay_0 : List UInt8 := [42, 180, 0, 195, 153, 0, 4, 177, 42, 180, 0, 57, 17, 2, 88, 42, 180, 0, 42, 16, 7, 46, 96, 27]
abbrev dktX7_lay_0 : List UInt8 := dkwX7_lay_0 ++ dktX7_lay_1
theorem dksX7_lay_0 : cX7_lay.data.toList.drop 0 = dktX7_lay_0 := by decide +kernel
theorem dksX7_lay_1 : cX7_lay.data.toList.drop 24 = dktX7_lay_1 := dk_seg dksX7_lay_0 24 rfl rfl
theorem dX7_lay_0 : decode cX7_lay 0 = .ok (.aload_n 0, 1) := dk_42 (dk_at dksX7_lay_0 0 rfl rfl)
theorem dX7_lay_1 : decode cX7_lay 1 = .ok (.getfield 195, 3) := dk_180 0 195 (dk_at dksX7_lay_0 1 rfl rfl)
theorem dX7_lay_4 : decode cX7_lay 4 = .ok (.ifCond .eq 4, 3) := dk_153 0 4 (dk_at dksX7_lay_0 4 rfl rfl)
theorem dX7_lay_7 : decode cX7_lay 7 = .ok (.return_, 1) := dk_177 (dk_at dksX7_lay_0 7 rfl rfl)
theorem dX7_lay_8 : decode cX7_lay 8 = .ok (.aload_n 0, 1) := dk_42 (dk_at dksX7_lay_0 8 rfl rfl)
theorem dX7_lay_9 : decode cX7_lay 9 = .ok (.getfield 57, 3) := dk_180 0 57 (dk_at dksX7_lay_0 9 rfl rfl)
theorem dX7_lay_12 : decode cX7_lay 12 = .ok (.sipush 600, 3) := dk_17 2 88 (dk_at dksX7_lay_0 12 rfl rfl)
theorem dX7_lay_15 : decode cX7_lay 15 = .ok (.aload_n 0, 1) := dk_42 (dk_at dksX7_lay_0 15 rfl rfl)
theorem dX7_lay_16 : decode cX7_lay 16 = .ok (.getfield 42, 3) := dk_180 0 42 (dk_at dksX7_lay_0 16 rfl rfl)
theorem dX7_lay_19 : decode cX7_lay 19 = .ok (.bipush 7, 2) := dk_16 7 (dk_at dksX7_lay_0 19 rfl rfl)
theorem dX7_lay_21 : decode cX7_lay 21 = .ok (.iaload, 1) := dk_46 (dk_at dksX7_lay_0 21 rfl rfl)
theorem dX7_lay_22 : decode cX7_lay 22 = .ok (.iadd, 1) := dk_96 (dk_at dksX7_lay_0 22 rfl rfl)
theorem dX7_lay_23 : decode cX7_lay 23 = .ok (.iload_n 1, 1) := dk_27 (dk_at dksX7_lay_0 23 rfl rfl)
theorem dX7_lay_24 : decode cX7_lay 24 = .ok (.iastore, 1) := dk_79 (dk_at dksX7_lay_1 0 rfl rfl)
theorem dX7_lay_25 : decode cX7_lay 25 = .ok (.aload_n 0, 1) := dk_42 (dk_at dksX7_lay_1 1 rfl rfl)
theorem dX7_lay_26 : decode cX7_lay 26 = .ok (.getfield 42, 3) := dk_180 0 42 (dk_at dksX7_lay_1 2 rfl rfl)
theorem dX7_lay_29 : decode cX7_lay 29 = .ok (.bipush 7, 2) := dk_16 7 (dk_at dksX7_lay_1 5 rfl rfl)
theorem dX7_lay_31 : decode cX7_lay 31 = .ok (.dup2, 1) := dk_92 (dk_at dksX7_lay_1 7 rfl rfl)
theorem dX7_lay_32 : decode cX7_lay 32 = .ok (.iaload, 1) := dk_46 (dk_at dksX7_lay_1 8 rfl rfl)
theorem dX7_lay_33 : decode cX7_lay 33 = .ok (.iconst 1, 1) := dk_4 (dk_at dksX7_lay_1 9 rfl rfl)
theorem dX7_lay_34 : decode cX7_lay 34 = .ok (.iadd, 1) := dk_96 (dk_at dksX7_lay_1 10 rfl rfl)
theorem dX7_lay_35 : decode cX7_lay 35 = .ok (.iastore, 1) := dk_79 (dk_at dksX7_lay_1 11 rfl rfl)
theorem dX7_lay_36 : decode cX7_lay 36 = .ok (.return_, 1) := dk_177 (dk_at dksX7_lay_1 12 rfl rfl)
abbrev cX7_mark : ByteArray := prog_20_method_19_code
def yX7_mark : MethodName := ⟨RX7, "mark", "(I)V"⟩
def dkwX7_mark_1 : List UInt8 := [154, 0, 7, 42, 182, 0, 220, 177]
abbrev dktX7_mark_1 : List UInt8 := dkwX7_mark_1 ++ []
def dkwX7_mark_0 : List UInt8 := [42, 180, 0, 195, 154, 0, 16, 42, 27, 182, 0, 213, 154, 0, 8, 42, 4, 182, 0, 216, 42, 180, 0, 195]
abbrev dktX7_mark_0 : List UInt8 := dkwX7_mark_0 ++ dktX7_mark_1
theorem dksX7_mark_0 : cX7_mark.data.toList.drop 0 = dktX7_mark_0 := by decide +kernel
theorem dksX7_mark_1 : cX7_mark.data.toList.drop 24 = dktX7_mark_1 := dk_seg dksX7_mark_0 24 rfl rfl
theorem dX7_mark_0 : decode cX7_mark 0 = .ok (.aload_n 0, 1) := dk_42 (dk_at dksX7_mark_0 0 rfl rfl)
theorem dX7_mark_1 : decode cX7_mark 1 = .ok (.getfield 195, 3) := dk_180 0 195 (dk_at dksX7_mark_0 1 rfl rfl)
theorem dX7_mark_4 : decode cX7_mark 4 = .ok (.ifCond .ne 16, 3) := dk_154 0 16 (dk_at dksX7_mark_0 4 rfl rfl)
theorem dX7_mark_7 : decode cX7_mark 7 = .ok (.aload_n 0, 1) := dk_42 (dk_at dksX7_mark_0 7 rfl rfl)
theorem dX7_mark_8 : decode cX7_mark 8 = .ok (.iload_n 1, 1) := dk_27 (dk_at dksX7_mark_0 8 rfl rfl)
theorem dX7_mark_9 : decode cX7_mark 9 = .ok (.invokevirtual 213, 3) := dk_182 0 213 (dk_at dksX7_mark_0 9 rfl rfl)
theorem dX7_mark_12 : decode cX7_mark 12 = .ok (.ifCond .ne 8, 3) := dk_154 0 8 (dk_at dksX7_mark_0 12 rfl rfl)
theorem dX7_mark_15 : decode cX7_mark 15 = .ok (.aload_n 0, 1) := dk_42 (dk_at dksX7_mark_0 15 rfl rfl)
theorem dX7_mark_16 : decode cX7_mark 16 = .ok (.iconst 1, 1) := dk_4 (dk_at dksX7_mark_0 16 rfl rfl)
theorem dX7_mark_17 : decode cX7_mark 17 = .ok (.invokevirtual 216, 3) := dk_182 0 216 (dk_at dksX7_mark_0 17 rfl rfl)
theorem dX7_mark_20 : decode cX7_mark 20 = .ok (.aload_n 0, 1) := dk_42 (dk_at dksX7_mark_0 20 rfl rfl)
theorem dX7_mark_21 : decode cX7_mark 21 = .ok (.getfield 195, 3) := dk_180 0 195 (dk_at dksX7_mark_0 21 rfl rfl)
theorem dX7_mark_24 : decode cX7_mark 24 = .ok (.ifCond .ne 7, 3) := dk_154 0 7 (dk_at dksX7_mark_1 0 rfl rfl)
theorem dX7_mark_27 : decode cX7_mark 27 = .ok (.aload_n 0, 1) := dk_42 (dk_at dksX7_mark_1 3 rfl rfl)
theorem dX7_mark_28 : decode cX7_mark 28 = .ok (.invokevirtual 220, 3) := dk_182 0 220 (dk_at dksX7_mark_1 4 rfl rfl)
theorem dX7_mark_31 : decode cX7_mark 31 = .ok (.return_, 1) := dk_177 (dk_at dksX7_mark_1 7 rfl rfl)
abbrev cX7_readTable : ByteArray := prog_20_method_28_code
def yX7_readTable : MethodName := ⟨RX7, "readTable", "(I)V"⟩
def dkwX7_readTable_5 : List UInt8 := [180, 0, 55, 28, 42, 3, 16, 99, 182, 0, 223, 79, 42, 180, 0, 42, 7, 92, 46, 4, 96, 79, 177]
abbrev dktX7_readTable_5 : List UInt8 := dkwX7_readTable_5 ++ []
def dkwX7_readTable_4 : List UInt8 := [182, 0, 223, 54, 4, 42, 180, 0, 52, 28, 29, 153, 0, 9, 21, 4, 116, 167, 0, 5, 21, 4, 79, 42]
abbrev dktX7_readTable_4 : List UInt8 := dkwX7_readTable_4 ++ dktX7_readTable_5
def dkwX7_readTable_3 : List UInt8 := [182, 0, 223, 79, 42, 16, 45, 182, 0, 213, 62, 29, 153, 0, 7, 42, 182, 0, 220, 42, 3, 16, 9]
abbrev dktX7_readTable_3 : List UInt8 := dkwX7_readTable_3 ++ dktX7_readTable_4
def dkwX7_readTable_2 : List UInt8 := [180, 0, 47, 28, 42, 4, 16, 99, 182, 0, 223, 79, 42, 180, 0, 49, 28, 42, 3, 17, 3, 231]
abbrev dktX7_readTable_2 : List UInt8 := dkwX7_readTable_2 ++ dktX7_readTable_3
def dkwX7_readTable_1 : List UInt8 := [42, 182, 0, 220, 16, 10, 42, 180, 0, 42, 7, 46, 96, 61, 42, 180, 0, 45, 28, 27, 79, 42]
abbrev dktX7_readTable_1 : List UInt8 := dkwX7_readTable_1 ++ dktX7_readTable_2
def dkwX7_readTable_0 : List UInt8 := [42, 180, 0, 42, 7, 46, 16, 10, 160, 0, 8, 42, 5, 182, 0, 216, 42, 180, 0, 195, 153, 0, 4, 177]
abbrev dktX7_readTable_0 : List UInt8 := dkwX7_readTable_0 ++ dktX7_readTable_1
theorem dksX7_readTable_0 : cX7_readTable.data.toList.drop 0 = dktX7_readTable_0 := by decide +kernel
theorem dksX7_readTable_1 : cX7_readTable.data.toList.drop 24 = dktX7_readTable_1 := dk_seg dksX7_readTable_0 24 rfl rfl
theorem dksX7_readTable_2 : cX7_readTable.data.toList.drop 46 = dktX7_readTable_2 := dk_seg dksX7_readTable_1 22 rfl rfl
theorem dksX7_readTable_3 : cX7_readTable.data.toList.drop 68 = dktX7_readTable_3 := dk_seg dksX7_readTable_2 22 rfl rfl
theorem dksX7_readTable_4 : cX7_readTable.data.toList.drop 91 = dktX7_readTable_4 := dk_seg dksX7_readTable_3 23 rfl rfl
theorem dksX7_readTable_5 : cX7_readTable.data.toList.drop 115 = dktX7_readTable_5 := dk_seg dksX7_readTable_4 24 rfl rfl
theorem dX7_readTable_0 : decode cX7_readTable 0 = .ok (.aload_n 0, 1) := dk_42 (dk_at dksX7_readTable_0 0 rfl rfl)
theorem dX7_readTable_1 : decode cX7_readTable 1 = .ok (.getfield 42, 3) := dk_180 0 42 (dk_at dksX7_readTable_0 1 rfl rfl)
theorem dX7_readTable_4 : decode cX7_readTable 4 = .ok (.iconst 4, 1) := dk_7 (dk_at dksX7_readTable_0 4 rfl rfl)
theorem dX7_readTable_5 : decode cX7_readTable 5 = .ok (.iaload, 1) := dk_46 (dk_at dksX7_readTable_0 5 rfl rfl)
theorem dX7_readTable_6 : decode cX7_readTable 6 = .ok (.bipush 10, 2) := dk_16 10 (dk_at dksX7_readTable_0 6 rfl rfl)
theorem dX7_readTable_8 : decode cX7_readTable 8 = .ok (.if_icmp .ne 8, 3) := dk_160 0 8 (dk_at dksX7_readTable_0 8 rfl rfl)
theorem dX7_readTable_11 : decode cX7_readTable 11 = .ok (.aload_n 0, 1) := dk_42 (dk_at dksX7_readTable_0 11 rfl rfl)
theorem dX7_readTable_12 : decode cX7_readTable 12 = .ok (.iconst 2, 1) := dk_5 (dk_at dksX7_readTable_0 12 rfl rfl)
theorem dX7_readTable_13 : decode cX7_readTable 13 = .ok (.invokevirtual 216, 3) := dk_182 0 216 (dk_at dksX7_readTable_0 13 rfl rfl)
theorem dX7_readTable_16 : decode cX7_readTable 16 = .ok (.aload_n 0, 1) := dk_42 (dk_at dksX7_readTable_0 16 rfl rfl)
theorem dX7_readTable_17 : decode cX7_readTable 17 = .ok (.getfield 195, 3) := dk_180 0 195 (dk_at dksX7_readTable_0 17 rfl rfl)
theorem dX7_readTable_20 : decode cX7_readTable 20 = .ok (.ifCond .eq 4, 3) := dk_153 0 4 (dk_at dksX7_readTable_0 20 rfl rfl)
theorem dX7_readTable_23 : decode cX7_readTable 23 = .ok (.return_, 1) := dk_177 (dk_at dksX7_readTable_0 23 rfl rfl)
theorem dX7_readTable_24 : decode cX7_readTable 24 = .ok (.aload_n 0, 1) := dk_42 (dk_at dksX7_readTable_1 0 rfl rfl)
theorem dX7_readTable_25 : decode cX7_readTable 25 = .ok (.invokevirtual 220, 3) := dk_182 0 220 (dk_at dksX7_readTable_1 1 rfl rfl)
theorem dX7_readTable_28 : decode cX7_readTable 28 = .ok (.bipush 10, 2) := dk_16 10 (dk_at dksX7_readTable_1 4 rfl rfl)
theorem dX7_readTable_30 : decode cX7_readTable 30 = .ok (.aload_n 0, 1) := dk_42 (dk_at dksX7_readTable_1 6 rfl rfl)
theorem dX7_readTable_31 : decode cX7_readTable 31 = .ok (.getfield 42, 3) := dk_180 0 42 (dk_at dksX7_readTable_1 7 rfl rfl)
theorem dX7_readTable_34 : decode cX7_readTable 34 = .ok (.iconst 4, 1) := dk_7 (dk_at dksX7_readTable_1 10 rfl rfl)
theorem dX7_readTable_35 : decode cX7_readTable 35 = .ok (.iaload, 1) := dk_46 (dk_at dksX7_readTable_1 11 rfl rfl)
theorem dX7_readTable_36 : decode cX7_readTable 36 = .ok (.iadd, 1) := dk_96 (dk_at dksX7_readTable_1 12 rfl rfl)
theorem dX7_readTable_37 : decode cX7_readTable 37 = .ok (.istore_n 2, 1) := dk_61 (dk_at dksX7_readTable_1 13 rfl rfl)
theorem dX7_readTable_38 : decode cX7_readTable 38 = .ok (.aload_n 0, 1) := dk_42 (dk_at dksX7_readTable_1 14 rfl rfl)
theorem dX7_readTable_39 : decode cX7_readTable 39 = .ok (.getfield 45, 3) := dk_180 0 45 (dk_at dksX7_readTable_1 15 rfl rfl)
theorem dX7_readTable_42 : decode cX7_readTable 42 = .ok (.iload_n 2, 1) := dk_28 (dk_at dksX7_readTable_1 18 rfl rfl)
theorem dX7_readTable_43 : decode cX7_readTable 43 = .ok (.iload_n 1, 1) := dk_27 (dk_at dksX7_readTable_1 19 rfl rfl)
theorem dX7_readTable_44 : decode cX7_readTable 44 = .ok (.iastore, 1) := dk_79 (dk_at dksX7_readTable_1 20 rfl rfl)
theorem dX7_readTable_45 : decode cX7_readTable 45 = .ok (.aload_n 0, 1) := dk_42 (dk_at dksX7_readTable_1 21 rfl rfl)
theorem dX7_readTable_46 : decode cX7_readTable 46 = .ok (.getfield 47, 3) := dk_180 0 47 (dk_at dksX7_readTable_2 0 rfl rfl)
theorem dX7_readTable_49 : decode cX7_readTable 49 = .ok (.iload_n 2, 1) := dk_28 (dk_at dksX7_readTable_2 3 rfl rfl)
theorem dX7_readTable_50 : decode cX7_readTable 50 = .ok (.aload_n 0, 1) := dk_42 (dk_at dksX7_readTable_2 4 rfl rfl)
theorem dX7_readTable_51 : decode cX7_readTable 51 = .ok (.iconst 1, 1) := dk_4 (dk_at dksX7_readTable_2 5 rfl rfl)
theorem dX7_readTable_52 : decode cX7_readTable 52 = .ok (.bipush 99, 2) := dk_16 99 (dk_at dksX7_readTable_2 6 rfl rfl)
theorem dX7_readTable_54 : decode cX7_readTable 54 = .ok (.invokevirtual 223, 3) := dk_182 0 223 (dk_at dksX7_readTable_2 8 rfl rfl)
theorem dX7_readTable_57 : decode cX7_readTable 57 = .ok (.iastore, 1) := dk_79 (dk_at dksX7_readTable_2 11 rfl rfl)
theorem dX7_readTable_58 : decode cX7_readTable 58 = .ok (.aload_n 0, 1) := dk_42 (dk_at dksX7_readTable_2 12 rfl rfl)
theorem dX7_readTable_59 : decode cX7_readTable 59 = .ok (.getfield 49, 3) := dk_180 0 49 (dk_at dksX7_readTable_2 13 rfl rfl)
theorem dX7_readTable_62 : decode cX7_readTable 62 = .ok (.iload_n 2, 1) := dk_28 (dk_at dksX7_readTable_2 16 rfl rfl)
theorem dX7_readTable_63 : decode cX7_readTable 63 = .ok (.aload_n 0, 1) := dk_42 (dk_at dksX7_readTable_2 17 rfl rfl)
theorem dX7_readTable_64 : decode cX7_readTable 64 = .ok (.iconst 0, 1) := dk_3 (dk_at dksX7_readTable_2 18 rfl rfl)
theorem dX7_readTable_65 : decode cX7_readTable 65 = .ok (.sipush 999, 3) := dk_17 3 231 (dk_at dksX7_readTable_2 19 rfl rfl)
theorem dX7_readTable_68 : decode cX7_readTable 68 = .ok (.invokevirtual 223, 3) := dk_182 0 223 (dk_at dksX7_readTable_3 0 rfl rfl)
theorem dX7_readTable_71 : decode cX7_readTable 71 = .ok (.iastore, 1) := dk_79 (dk_at dksX7_readTable_3 3 rfl rfl)
theorem dX7_readTable_72 : decode cX7_readTable 72 = .ok (.aload_n 0, 1) := dk_42 (dk_at dksX7_readTable_3 4 rfl rfl)
theorem dX7_readTable_73 : decode cX7_readTable 73 = .ok (.bipush 45, 2) := dk_16 45 (dk_at dksX7_readTable_3 5 rfl rfl)
theorem dX7_readTable_75 : decode cX7_readTable 75 = .ok (.invokevirtual 213, 3) := dk_182 0 213 (dk_at dksX7_readTable_3 7 rfl rfl)
theorem dX7_readTable_78 : decode cX7_readTable 78 = .ok (.istore_n 3, 1) := dk_62 (dk_at dksX7_readTable_3 10 rfl rfl)
theorem dX7_readTable_79 : decode cX7_readTable 79 = .ok (.iload_n 3, 1) := dk_29 (dk_at dksX7_readTable_3 11 rfl rfl)
theorem dX7_readTable_80 : decode cX7_readTable 80 = .ok (.ifCond .eq 7, 3) := dk_153 0 7 (dk_at dksX7_readTable_3 12 rfl rfl)
theorem dX7_readTable_83 : decode cX7_readTable 83 = .ok (.aload_n 0, 1) := dk_42 (dk_at dksX7_readTable_3 15 rfl rfl)
theorem dX7_readTable_84 : decode cX7_readTable 84 = .ok (.invokevirtual 220, 3) := dk_182 0 220 (dk_at dksX7_readTable_3 16 rfl rfl)
theorem dX7_readTable_87 : decode cX7_readTable 87 = .ok (.aload_n 0, 1) := dk_42 (dk_at dksX7_readTable_3 19 rfl rfl)
theorem dX7_readTable_88 : decode cX7_readTable 88 = .ok (.iconst 0, 1) := dk_3 (dk_at dksX7_readTable_3 20 rfl rfl)
theorem dX7_readTable_89 : decode cX7_readTable 89 = .ok (.bipush 9, 2) := dk_16 9 (dk_at dksX7_readTable_3 21 rfl rfl)
theorem dX7_readTable_91 : decode cX7_readTable 91 = .ok (.invokevirtual 223, 3) := dk_182 0 223 (dk_at dksX7_readTable_4 0 rfl rfl)
theorem dX7_readTable_94 : decode cX7_readTable 94 = .ok (.istore 4, 2) := dk_54 4 (dk_at dksX7_readTable_4 3 rfl rfl)
theorem dX7_readTable_96 : decode cX7_readTable 96 = .ok (.aload_n 0, 1) := dk_42 (dk_at dksX7_readTable_4 5 rfl rfl)
theorem dX7_readTable_97 : decode cX7_readTable 97 = .ok (.getfield 52, 3) := dk_180 0 52 (dk_at dksX7_readTable_4 6 rfl rfl)
theorem dX7_readTable_100 : decode cX7_readTable 100 = .ok (.iload_n 2, 1) := dk_28 (dk_at dksX7_readTable_4 9 rfl rfl)
theorem dX7_readTable_101 : decode cX7_readTable 101 = .ok (.iload_n 3, 1) := dk_29 (dk_at dksX7_readTable_4 10 rfl rfl)
theorem dX7_readTable_102 : decode cX7_readTable 102 = .ok (.ifCond .eq 9, 3) := dk_153 0 9 (dk_at dksX7_readTable_4 11 rfl rfl)
theorem dX7_readTable_105 : decode cX7_readTable 105 = .ok (.iload 4, 2) := dk_21 4 (dk_at dksX7_readTable_4 14 rfl rfl)
theorem dX7_readTable_107 : decode cX7_readTable 107 = .ok (.ineg, 1) := dk_116 (dk_at dksX7_readTable_4 16 rfl rfl)
theorem dX7_readTable_108 : decode cX7_readTable 108 = .ok (.goto 5, 3) := dk_167 0 5 (dk_at dksX7_readTable_4 17 rfl rfl)
theorem dX7_readTable_111 : decode cX7_readTable 111 = .ok (.iload 4, 2) := dk_21 4 (dk_at dksX7_readTable_4 20 rfl rfl)
theorem dX7_readTable_113 : decode cX7_readTable 113 = .ok (.iastore, 1) := dk_79 (dk_at dksX7_readTable_4 22 rfl rfl)
theorem dX7_readTable_114 : decode cX7_readTable 114 = .ok (.aload_n 0, 1) := dk_42 (dk_at dksX7_readTable_4 23 rfl rfl)
theorem dX7_readTable_115 : decode cX7_readTable 115 = .ok (.getfield 55, 3) := dk_180 0 55 (dk_at dksX7_readTable_5 0 rfl rfl)
theorem dX7_readTable_118 : decode cX7_readTable 118 = .ok (.iload_n 2, 1) := dk_28 (dk_at dksX7_readTable_5 3 rfl rfl)
theorem dX7_readTable_119 : decode cX7_readTable 119 = .ok (.aload_n 0, 1) := dk_42 (dk_at dksX7_readTable_5 4 rfl rfl)
theorem dX7_readTable_120 : decode cX7_readTable 120 = .ok (.iconst 0, 1) := dk_3 (dk_at dksX7_readTable_5 5 rfl rfl)
theorem dX7_readTable_121 : decode cX7_readTable 121 = .ok (.bipush 99, 2) := dk_16 99 (dk_at dksX7_readTable_5 6 rfl rfl)
theorem dX7_readTable_123 : decode cX7_readTable 123 = .ok (.invokevirtual 223, 3) := dk_182 0 223 (dk_at dksX7_readTable_5 8 rfl rfl)
theorem dX7_readTable_126 : decode cX7_readTable 126 = .ok (.iastore, 1) := dk_79 (dk_at dksX7_readTable_5 11 rfl rfl)
theorem dX7_readTable_127 : decode cX7_readTable 127 = .ok (.aload_n 0, 1) := dk_42 (dk_at dksX7_readTable_5 12 rfl rfl)
theorem dX7_readTable_128 : decode cX7_readTable 128 = .ok (.getfield 42, 3) := dk_180 0 42 (dk_at dksX7_readTable_5 13 rfl rfl)
theorem dX7_readTable_131 : decode cX7_readTable 131 = .ok (.iconst 4, 1) := dk_7 (dk_at dksX7_readTable_5 16 rfl rfl)
theorem dX7_readTable_132 : decode cX7_readTable 132 = .ok (.dup2, 1) := dk_92 (dk_at dksX7_readTable_5 17 rfl rfl)
theorem dX7_readTable_133 : decode cX7_readTable 133 = .ok (.iaload, 1) := dk_46 (dk_at dksX7_readTable_5 18 rfl rfl)
theorem dX7_readTable_134 : decode cX7_readTable 134 = .ok (.iconst 1, 1) := dk_4 (dk_at dksX7_readTable_5 19 rfl rfl)
theorem dX7_readTable_135 : decode cX7_readTable 135 = .ok (.iadd, 1) := dk_96 (dk_at dksX7_readTable_5 20 rfl rfl)
theorem dX7_readTable_136 : decode cX7_readTable 136 = .ok (.iastore, 1) := dk_79 (dk_at dksX7_readTable_5 21 rfl rfl)
theorem dX7_readTable_137 : decode cX7_readTable 137 = .ok (.return_, 1) := dk_177 (dk_at dksX7_readTable_5 22 rfl rfl)
abbrev cX7_takeOver : ByteArray := prog_20_method_32_code
def yX7_takeOver : MethodName := ⟨RX7, "takeOver", "()V"⟩
def dkwX7_takeOver_5 : List UInt8 := [42, 3, 181, 1, 29, 42, 3, 181, 1, 32, 42, 3, 181, 1, 35, 177]
abbrev dktX7_takeOver_5 : List UInt8 := dkwX7_takeOver_5 ++ []
def dkwX7_takeOver_4 : List UInt8 := [180, 0, 76, 27, 3, 79, 42, 180, 0, 79, 27, 42, 180, 0, 52, 27, 46, 79, 132, 1, 1, 167, 255, 214]
abbrev dktX7_takeOver_4 : List UInt8 := dkwX7_takeOver_4 ++ dktX7_takeOver_5
def dkwX7_takeOver_3 : List UInt8 := [60, 27, 16, 10, 162, 0, 42, 42, 180, 0, 70, 27, 27, 79, 42, 180, 0, 73, 27, 3, 79, 42]
abbrev dktX7_takeOver_3 : List UInt8 := dkwX7_takeOver_3 ++ dktX7_takeOver_4
def dkwX7_takeOver_2 : List UInt8 := [184, 1, 22, 42, 42, 180, 0, 42, 3, 46, 181, 0, 150, 42, 3, 181, 1, 26, 42, 2, 181, 0, 85, 3]
abbrev dktX7_takeOver_2 : List UInt8 := dkwX7_takeOver_2 ++ dktX7_takeOver_3
def dkwX7_takeOver_1 : List UInt8 := [180, 0, 49, 184, 1, 22, 42, 180, 0, 52, 184, 1, 22, 42, 180, 0, 55, 184, 1, 22, 42, 180, 0, 57]
abbrev dktX7_takeOver_1 : List UInt8 := dkwX7_takeOver_1 ++ dktX7_takeOver_2
def dkwX7_takeOver_0 : List UInt8 := [42, 180, 0, 42, 184, 1, 22, 42, 180, 0, 45, 184, 1, 22, 42, 180, 0, 47, 184, 1, 22, 42]
abbrev dktX7_takeOver_0 : List UInt8 := dkwX7_takeOver_0 ++ dktX7_takeOver_1
theorem dksX7_takeOver_0 : cX7_takeOver.data.toList.drop 0 = dktX7_takeOver_0 := by decide +kernel
theorem dksX7_takeOver_1 : cX7_takeOver.data.toList.drop 22 = dktX7_takeOver_1 := dk_seg dksX7_takeOver_0 22 rfl rfl
theorem dksX7_takeOver_2 : cX7_takeOver.data.toList.drop 46 = dktX7_takeOver_2 := dk_seg dksX7_takeOver_1 24 rfl rfl
theorem dksX7_takeOver_3 : cX7_takeOver.data.toList.drop 70 = dktX7_takeOver_3 := dk_seg dksX7_takeOver_2 24 rfl rfl
theorem dksX7_takeOver_4 : cX7_takeOver.data.toList.drop 92 = dktX7_takeOver_4 := dk_seg dksX7_takeOver_3 22 rfl rfl
theorem dksX7_takeOver_5 : cX7_takeOver.data.toList.drop 116 = dktX7_takeOver_5 := dk_seg dksX7_takeOver_4 24 rfl rfl
theorem dX7_takeOver_0 : decode cX7_takeOver 0 = .ok (.aload_n 0, 1) := dk_42 (dk_at dksX7_takeOver_0 0 rfl rfl)
theorem dX7_takeOver_1 : decode cX7_takeOver 1 = .ok (.getfield 42, 3) := dk_180 0 42 (dk_at dksX7_takeOver_0 1 rfl rfl)
theorem dX7_takeOver_4 : decode cX7_takeOver 4 = .ok (.invokestatic 278, 3) := dk_184 1 22 (dk_at dksX7_takeOver_0 4 rfl rfl)
theorem dX7_takeOver_7 : decode cX7_takeOver 7 = .ok (.aload_n 0, 1) := dk_42 (dk_at dksX7_takeOver_0 7 rfl rfl)
theorem dX7_takeOver_8 : decode cX7_takeOver 8 = .ok (.getfield 45, 3) := dk_180 0 45 (dk_at dksX7_takeOver_0 8 rfl rfl)
theorem dX7_takeOver_11 : decode cX7_takeOver 11 = .ok (.invokestatic 278, 3) := dk_184 1 22 (dk_at dksX7_takeOver_0 11 rfl rfl)
theorem dX7_takeOver_14 : decode cX7_takeOver 14 = .ok (.aload_n 0, 1) := dk_42 (dk_at dksX7_takeOver_0 14 rfl rfl)
theorem dX7_takeOver_15 : decode cX7_takeOver 15 = .ok (.getfield 47, 3) := dk_180 0 47 (dk_at dksX7_takeOver_0 15 rfl rfl)
theorem dX7_takeOver_18 : decode cX7_takeOver 18 = .ok (.invokestatic 278, 3) := dk_184 1 22 (dk_at dksX7_takeOver_0 18 rfl rfl)
theorem dX7_takeOver_21 : decode cX7_takeOver 21 = .ok (.aload_n 0, 1) := dk_42 (dk_at dksX7_takeOver_0 21 rfl rfl)
theorem dX7_takeOver_22 : decode cX7_takeOver 22 = .ok (.getfield 49, 3) := dk_180 0 49 (dk_at dksX7_takeOver_1 0 rfl rfl)
theorem dX7_takeOver_25 : decode cX7_takeOver 25 = .ok (.invokestatic 278, 3) := dk_184 1 22 (dk_at dksX7_takeOver_1 3 rfl rfl)
theorem dX7_takeOver_28 : decode cX7_takeOver 28 = .ok (.aload_n 0, 1) := dk_42 (dk_at dksX7_takeOver_1 6 rfl rfl)
theorem dX7_takeOver_29 : decode cX7_takeOver 29 = .ok (.getfield 52, 3) := dk_180 0 52 (dk_at dksX7_takeOver_1 7 rfl rfl)
theorem dX7_takeOver_32 : decode cX7_takeOver 32 = .ok (.invokestatic 278, 3) := dk_184 1 22 (dk_at dksX7_takeOver_1 10 rfl rfl)
theorem dX7_takeOver_35 : decode cX7_takeOver 35 = .ok (.aload_n 0, 1) := dk_42 (dk_at dksX7_takeOver_1 13 rfl rfl)
theorem dX7_takeOver_36 : decode cX7_takeOver 36 = .ok (.getfield 55, 3) := dk_180 0 55 (dk_at dksX7_takeOver_1 14 rfl rfl)
theorem dX7_takeOver_39 : decode cX7_takeOver 39 = .ok (.invokestatic 278, 3) := dk_184 1 22 (dk_at dksX7_takeOver_1 17 rfl rfl)
theorem dX7_takeOver_42 : decode cX7_takeOver 42 = .ok (.aload_n 0, 1) := dk_42 (dk_at dksX7_takeOver_1 20 rfl rfl)
theorem dX7_takeOver_43 : decode cX7_takeOver 43 = .ok (.getfield 57, 3) := dk_180 0 57 (dk_at dksX7_takeOver_1 21 rfl rfl)
theorem dX7_takeOver_46 : decode cX7_takeOver 46 = .ok (.invokestatic 278, 3) := dk_184 1 22 (dk_at dksX7_takeOver_2 0 rfl rfl)
theorem dX7_takeOver_49 : decode cX7_takeOver 49 = .ok (.aload_n 0, 1) := dk_42 (dk_at dksX7_takeOver_2 3 rfl rfl)
theorem dX7_takeOver_50 : decode cX7_takeOver 50 = .ok (.aload_n 0, 1) := dk_42 (dk_at dksX7_takeOver_2 4 rfl rfl)
theorem dX7_takeOver_51 : decode cX7_takeOver 51 = .ok (.getfield 42, 3) := dk_180 0 42 (dk_at dksX7_takeOver_2 5 rfl rfl)
theorem dX7_takeOver_54 : decode cX7_takeOver 54 = .ok (.iconst 0, 1) := dk_3 (dk_at dksX7_takeOver_2 8 rfl rfl)
theorem dX7_takeOver_55 : decode cX7_takeOver 55 = .ok (.iaload, 1) := dk_46 (dk_at dksX7_takeOver_2 9 rfl rfl)
theorem dX7_takeOver_56 : decode cX7_takeOver 56 = .ok (.putfield 150, 3) := dk_181 0 150 (dk_at dksX7_takeOver_2 10 rfl rfl)
theorem dX7_takeOver_59 : decode cX7_takeOver 59 = .ok (.aload_n 0, 1) := dk_42 (dk_at dksX7_takeOver_2 13 rfl rfl)
theorem dX7_takeOver_60 : decode cX7_takeOver 60 = .ok (.iconst 0, 1) := dk_3 (dk_at dksX7_takeOver_2 14 rfl rfl)
theorem dX7_takeOver_61 : decode cX7_takeOver 61 = .ok (.putfield 282, 3) := dk_181 1 26 (dk_at dksX7_takeOver_2 15 rfl rfl)
theorem dX7_takeOver_64 : decode cX7_takeOver 64 = .ok (.aload_n 0, 1) := dk_42 (dk_at dksX7_takeOver_2 18 rfl rfl)
theorem dX7_takeOver_65 : decode cX7_takeOver 65 = .ok (.iconst (-1), 1) := dk_2 (dk_at dksX7_takeOver_2 19 rfl rfl)
theorem dX7_takeOver_66 : decode cX7_takeOver 66 = .ok (.putfield 85, 3) := dk_181 0 85 (dk_at dksX7_takeOver_2 20 rfl rfl)
theorem dX7_takeOver_69 : decode cX7_takeOver 69 = .ok (.iconst 0, 1) := dk_3 (dk_at dksX7_takeOver_2 23 rfl rfl)
theorem dX7_takeOver_70 : decode cX7_takeOver 70 = .ok (.istore_n 1, 1) := dk_60 (dk_at dksX7_takeOver_3 0 rfl rfl)
theorem dX7_takeOver_71 : decode cX7_takeOver 71 = .ok (.iload_n 1, 1) := dk_27 (dk_at dksX7_takeOver_3 1 rfl rfl)
theorem dX7_takeOver_72 : decode cX7_takeOver 72 = .ok (.bipush 10, 2) := dk_16 10 (dk_at dksX7_takeOver_3 2 rfl rfl)
theorem dX7_takeOver_74 : decode cX7_takeOver 74 = .ok (.if_icmp .ge 42, 3) := dk_162 0 42 (dk_at dksX7_takeOver_3 4 rfl rfl)
theorem dX7_takeOver_77 : decode cX7_takeOver 77 = .ok (.aload_n 0, 1) := dk_42 (dk_at dksX7_takeOver_3 7 rfl rfl)
theorem dX7_takeOver_78 : decode cX7_takeOver 78 = .ok (.getfield 70, 3) := dk_180 0 70 (dk_at dksX7_takeOver_3 8 rfl rfl)
theorem dX7_takeOver_81 : decode cX7_takeOver 81 = .ok (.iload_n 1, 1) := dk_27 (dk_at dksX7_takeOver_3 11 rfl rfl)
theorem dX7_takeOver_82 : decode cX7_takeOver 82 = .ok (.iload_n 1, 1) := dk_27 (dk_at dksX7_takeOver_3 12 rfl rfl)
theorem dX7_takeOver_83 : decode cX7_takeOver 83 = .ok (.iastore, 1) := dk_79 (dk_at dksX7_takeOver_3 13 rfl rfl)
theorem dX7_takeOver_84 : decode cX7_takeOver 84 = .ok (.aload_n 0, 1) := dk_42 (dk_at dksX7_takeOver_3 14 rfl rfl)
theorem dX7_takeOver_85 : decode cX7_takeOver 85 = .ok (.getfield 73, 3) := dk_180 0 73 (dk_at dksX7_takeOver_3 15 rfl rfl)
theorem dX7_takeOver_88 : decode cX7_takeOver 88 = .ok (.iload_n 1, 1) := dk_27 (dk_at dksX7_takeOver_3 18 rfl rfl)
theorem dX7_takeOver_89 : decode cX7_takeOver 89 = .ok (.iconst 0, 1) := dk_3 (dk_at dksX7_takeOver_3 19 rfl rfl)
theorem dX7_takeOver_90 : decode cX7_takeOver 90 = .ok (.iastore, 1) := dk_79 (dk_at dksX7_takeOver_3 20 rfl rfl)
theorem dX7_takeOver_91 : decode cX7_takeOver 91 = .ok (.aload_n 0, 1) := dk_42 (dk_at dksX7_takeOver_3 21 rfl rfl)
theorem dX7_takeOver_92 : decode cX7_takeOver 92 = .ok (.getfield 76, 3) := dk_180 0 76 (dk_at dksX7_takeOver_4 0 rfl rfl)
theorem dX7_takeOver_95 : decode cX7_takeOver 95 = .ok (.iload_n 1, 1) := dk_27 (dk_at dksX7_takeOver_4 3 rfl rfl)
theorem dX7_takeOver_96 : decode cX7_takeOver 96 = .ok (.iconst 0, 1) := dk_3 (dk_at dksX7_takeOver_4 4 rfl rfl)
theorem dX7_takeOver_97 : decode cX7_takeOver 97 = .ok (.iastore, 1) := dk_79 (dk_at dksX7_takeOver_4 5 rfl rfl)
theorem dX7_takeOver_98 : decode cX7_takeOver 98 = .ok (.aload_n 0, 1) := dk_42 (dk_at dksX7_takeOver_4 6 rfl rfl)
theorem dX7_takeOver_99 : decode cX7_takeOver 99 = .ok (.getfield 79, 3) := dk_180 0 79 (dk_at dksX7_takeOver_4 7 rfl rfl)
theorem dX7_takeOver_102 : decode cX7_takeOver 102 = .ok (.iload_n 1, 1) := dk_27 (dk_at dksX7_takeOver_4 10 rfl rfl)
theorem dX7_takeOver_103 : decode cX7_takeOver 103 = .ok (.aload_n 0, 1) := dk_42 (dk_at dksX7_takeOver_4 11 rfl rfl)
theorem dX7_takeOver_104 : decode cX7_takeOver 104 = .ok (.getfield 52, 3) := dk_180 0 52 (dk_at dksX7_takeOver_4 12 rfl rfl)
theorem dX7_takeOver_107 : decode cX7_takeOver 107 = .ok (.iload_n 1, 1) := dk_27 (dk_at dksX7_takeOver_4 15 rfl rfl)
theorem dX7_takeOver_108 : decode cX7_takeOver 108 = .ok (.iaload, 1) := dk_46 (dk_at dksX7_takeOver_4 16 rfl rfl)
theorem dX7_takeOver_109 : decode cX7_takeOver 109 = .ok (.iastore, 1) := dk_79 (dk_at dksX7_takeOver_4 17 rfl rfl)
theorem dX7_takeOver_110 : decode cX7_takeOver 110 = .ok (.iinc 1 1, 3) := dk_132 1 1 (dk_at dksX7_takeOver_4 18 rfl rfl)
theorem dX7_takeOver_113 : decode cX7_takeOver 113 = .ok (.goto (-42), 3) := dk_167 255 214 (dk_at dksX7_takeOver_4 21 rfl rfl)
theorem dX7_takeOver_116 : decode cX7_takeOver 116 = .ok (.aload_n 0, 1) := dk_42 (dk_at dksX7_takeOver_5 0 rfl rfl)
theorem dX7_takeOver_117 : decode cX7_takeOver 117 = .ok (.iconst 0, 1) := dk_3 (dk_at dksX7_takeOver_5 1 rfl rfl)
theorem dX7_takeOver_118 : decode cX7_takeOver 118 = .ok (.putfield 285, 3) := dk_181 1 29 (dk_at dksX7_takeOver_5 2 rfl rfl)
theorem dX7_takeOver_121 : decode cX7_takeOver 121 = .ok (.aload_n 0, 1) := dk_42 (dk_at dksX7_takeOver_5 5 rfl rfl)
theorem dX7_takeOver_122 : decode cX7_takeOver 122 = .ok (.iconst 0, 1) := dk_3 (dk_at dksX7_takeOver_5 6 rfl rfl)
theorem dX7_takeOver_123 : decode cX7_takeOver 123 = .ok (.putfield 288, 3) := dk_181 1 32 (dk_at dksX7_takeOver_5 7 rfl rfl)
theorem dX7_takeOver_126 : decode cX7_takeOver 126 = .ok (.aload_n 0, 1) := dk_42 (dk_at dksX7_takeOver_5 10 rfl rfl)
theorem dX7_takeOver_127 : decode cX7_takeOver 127 = .ok (.iconst 0, 1) := dk_3 (dk_at dksX7_takeOver_5 11 rfl rfl)
theorem dX7_takeOver_128 : decode cX7_takeOver 128 = .ok (.putfield 291, 3) := dk_181 1 35 (dk_at dksX7_takeOver_5 12 rfl rfl)
theorem dX7_takeOver_131 : decode cX7_takeOver 131 = .ok (.return_, 1) := dk_177 (dk_at dksX7_takeOver_5 15 rfl rfl)
abbrev cX7_takeHalf : ByteArray := prog_20_method_31_code
def yX7_takeHalf : MethodName := ⟨RX7, "takeHalf", "([I)V"⟩
def dkwX7_takeHalf_1 : List UInt8 := [167, 255, 234, 177]
abbrev dktX7_takeHalf_1 : List UInt8 := dkwX7_takeHalf_1 ++ []
def dkwX7_takeHalf_0 : List UInt8 := [3, 60, 27, 42, 190, 5, 108, 162, 0, 20, 42, 27, 42, 42, 190, 5, 108, 27, 96, 46, 79, 132, 1, 1]
abbrev dktX7_takeHalf_0 : List UInt8 := dkwX7_takeHalf_0 ++ dktX7_takeHalf_1
theorem dksX7_takeHalf_0 : cX7_takeHalf.data.toList.drop 0 = dktX7_takeHalf_0 := by decide +kernel
theorem dksX7_takeHalf_1 : cX7_takeHalf.data.toList.drop 24 = dktX7_takeHalf_1 := dk_seg dksX7_takeHalf_0 24 rfl rfl
theorem dX7_takeHalf_0 : decode cX7_takeHalf 0 = .ok (.iconst 0, 1) := dk_3 (dk_at dksX7_takeHalf_0 0 rfl rfl)
theorem dX7_takeHalf_1 : decode cX7_takeHalf 1 = .ok (.istore_n 1, 1) := dk_60 (dk_at dksX7_takeHalf_0 1 rfl rfl)
theorem dX7_takeHalf_2 : decode cX7_takeHalf 2 = .ok (.iload_n 1, 1) := dk_27 (dk_at dksX7_takeHalf_0 2 rfl rfl)
theorem dX7_takeHalf_3 : decode cX7_takeHalf 3 = .ok (.aload_n 0, 1) := dk_42 (dk_at dksX7_takeHalf_0 3 rfl rfl)
theorem dX7_takeHalf_4 : decode cX7_takeHalf 4 = .ok (.arraylength, 1) := dk_190 (dk_at dksX7_takeHalf_0 4 rfl rfl)
theorem dX7_takeHalf_5 : decode cX7_takeHalf 5 = .ok (.iconst 2, 1) := dk_5 (dk_at dksX7_takeHalf_0 5 rfl rfl)
theorem dX7_takeHalf_6 : decode cX7_takeHalf 6 = .ok (.idiv, 1) := dk_108 (dk_at dksX7_takeHalf_0 6 rfl rfl)
theorem dX7_takeHalf_7 : decode cX7_takeHalf 7 = .ok (.if_icmp .ge 20, 3) := dk_162 0 20 (dk_at dksX7_takeHalf_0 7 rfl rfl)
theorem dX7_takeHalf_10 : decode cX7_takeHalf 10 = .ok (.aload_n 0, 1) := dk_42 (dk_at dksX7_takeHalf_0 10 rfl rfl)
theorem dX7_takeHalf_11 : decode cX7_takeHalf 11 = .ok (.iload_n 1, 1) := dk_27 (dk_at dksX7_takeHalf_0 11 rfl rfl)
theorem dX7_takeHalf_12 : decode cX7_takeHalf 12 = .ok (.aload_n 0, 1) := dk_42 (dk_at dksX7_takeHalf_0 12 rfl rfl)
theorem dX7_takeHalf_13 : decode cX7_takeHalf 13 = .ok (.aload_n 0, 1) := dk_42 (dk_at dksX7_takeHalf_0 13 rfl rfl)
theorem dX7_takeHalf_14 : decode cX7_takeHalf 14 = .ok (.arraylength, 1) := dk_190 (dk_at dksX7_takeHalf_0 14 rfl rfl)
theorem dX7_takeHalf_15 : decode cX7_takeHalf 15 = .ok (.iconst 2, 1) := dk_5 (dk_at dksX7_takeHalf_0 15 rfl rfl)
theorem dX7_takeHalf_16 : decode cX7_takeHalf 16 = .ok (.idiv, 1) := dk_108 (dk_at dksX7_takeHalf_0 16 rfl rfl)
theorem dX7_takeHalf_17 : decode cX7_takeHalf 17 = .ok (.iload_n 1, 1) := dk_27 (dk_at dksX7_takeHalf_0 17 rfl rfl)
theorem dX7_takeHalf_18 : decode cX7_takeHalf 18 = .ok (.iadd, 1) := dk_96 (dk_at dksX7_takeHalf_0 18 rfl rfl)
theorem dX7_takeHalf_19 : decode cX7_takeHalf 19 = .ok (.iaload, 1) := dk_46 (dk_at dksX7_takeHalf_0 19 rfl rfl)
theorem dX7_takeHalf_20 : decode cX7_takeHalf 20 = .ok (.iastore, 1) := dk_79 (dk_at dksX7_takeHalf_0 20 rfl rfl)
theorem dX7_takeHalf_21 : decode cX7_takeHalf 21 = .ok (.iinc 1 1, 3) := dk_132 1 1 (dk_at dksX7_takeHalf_0 21 rfl rfl)
theorem dX7_takeHalf_24 : decode cX7_takeHalf 24 = .ok (.goto (-22), 3) := dk_167 255 234 (dk_at dksX7_takeHalf_1 0 rfl rfl)
theorem dX7_takeHalf_27 : decode cX7_takeHalf 27 = .ok (.return_, 1) := dk_177 (dk_at dksX7_takeHalf_1 3 rfl rfl)
abbrev cX7_fault : ByteArray := prog_20_method_33_code
def yX7_fault : MethodName := ⟨RX7, "fault", "()I"⟩
def dkwX7_fault_0 : List UInt8 := [42, 3, 181, 0, 143, 42, 180, 0, 66, 172]
abbrev dktX7_fault_0 : List UInt8 := dkwX7_fault_0 ++ []
theorem dksX7_fault_0 : cX7_fault.data.toList.drop 0 = dktX7_fault_0 := by decide +kernel
theorem dX7_fault_0 : decode cX7_fault 0 = .ok (.aload_n 0, 1) := dk_42 (dk_at dksX7_fault_0 0 rfl rfl)
theorem dX7_fault_1 : decode cX7_fault 1 = .ok (.iconst 0, 1) := dk_3 (dk_at dksX7_fault_0 1 rfl rfl)
theorem dX7_fault_2 : decode cX7_fault 2 = .ok (.putfield 143, 3) := dk_181 0 143 (dk_at dksX7_fault_0 2 rfl rfl)
theorem dX7_fault_5 : decode cX7_fault 5 = .ok (.aload_n 0, 1) := dk_42 (dk_at dksX7_fault_0 5 rfl rfl)
theorem dX7_fault_6 : decode cX7_fault 6 = .ok (.getfield 66, 3) := dk_180 0 66 (dk_at dksX7_fault_0 6 rfl rfl)
theorem dX7_fault_9 : decode cX7_fault 9 = .ok (.ireturn, 1) := dk_172 (dk_at dksX7_fault_0 9 rfl rfl)
abbrev cX7_count : ByteArray := prog_20_method_49_code
def yX7_count : MethodName := ⟨RX7, "count", "(I)I"⟩
def dkwX7_count_5 : List UInt8 := [42, 180, 0, 60, 27, 16, 12, 100, 46, 172, 42, 4, 182, 1, 13, 172]
abbrev dktX7_count_5 : List UInt8 := dkwX7_count_5 ++ []
def dkwX7_count_4 : List UInt8 := [182, 1, 74, 172, 42, 180, 1, 26, 172, 42, 180, 1, 29, 172, 42, 180, 1, 32, 172, 42, 180, 0, 153, 172]
abbrev dktX7_count_4 : List UInt8 := dkwX7_count_4 ++ dktX7_count_5
def dkwX7_count_3 : List UInt8 := [182, 1, 70, 153, 0, 7, 4, 167, 0, 4, 3, 172, 42, 182, 1, 67, 172, 42, 180, 0, 85, 172, 42]
abbrev dktX7_count_3 : List UInt8 := dkwX7_count_3 ++ dktX7_count_4
def dkwX7_count_2 : List UInt8 := [42, 180, 0, 42, 3, 46, 172, 42, 180, 0, 150, 172, 42, 180, 0, 42, 27, 4, 100, 46, 172, 42]
abbrev dktX7_count_2 : List UInt8 := dkwX7_count_2 ++ dktX7_count_3
def dkwX7_count_1 : List UInt8 := [170, 0, 0, 0, 0, 153, 0, 0, 0, 0, 0, 0, 0, 14, 0, 0, 0, 74, 0, 0, 0, 81, 0, 0, 0, 86, 0, 0, 0, 86, 0, 0, 0, 95, 0, 0, 0, 108, 0, 0, 0, 113, 0, 0, 0, 118, 0, 0, 0, 123, 0, 0, 0, 128, 0, 0, 0, 133, 0, 0, 0, 138, 0, 0, 0, 143, 0, 0, 0, 143, 0, 0, 0, 143]
abbrev dktX7_count_1 : List UInt8 := dkwX7_count_1 ++ dktX7_count_2
def dkwX7_count_0 : List UInt8 := [42, 3, 181, 0, 143, 27]
abbrev dktX7_count_0 : List UInt8 := dkwX7_count_0 ++ dktX7_count_1
theorem dksX7_count_0 : cX7_count.data.toList.drop 0 = dktX7_count_0 := by decide +kernel
theorem dksX7_count_1 : cX7_count.data.toList.drop 6 = dktX7_count_1 := dk_seg dksX7_count_0 6 rfl rfl
theorem dksX7_count_2 : cX7_count.data.toList.drop 80 = dktX7_count_2 := dk_seg dksX7_count_1 74 rfl rfl
theorem dksX7_count_3 : cX7_count.data.toList.drop 102 = dktX7_count_3 := dk_seg dksX7_count_2 22 rfl rfl
theorem dksX7_count_4 : cX7_count.data.toList.drop 125 = dktX7_count_4 := dk_seg dksX7_count_3 23 rfl rfl
theorem dksX7_count_5 : cX7_count.data.toList.drop 149 = dktX7_count_5 := dk_seg dksX7_count_4 24 rfl rfl
theorem dX7_count_0 : decode cX7_count 0 = .ok (.aload_n 0, 1) := dk_42 (dk_at dksX7_count_0 0 rfl rfl)
theorem dX7_count_1 : decode cX7_count 1 = .ok (.iconst 0, 1) := dk_3 (dk_at dksX7_count_0 1 rfl rfl)
theorem dX7_count_2 : decode cX7_count 2 = .ok (.putfield 143, 3) := dk_181 0 143 (dk_at dksX7_count_0 2 rfl rfl)
theorem dX7_count_5 : decode cX7_count 5 = .ok (.iload_n 1, 1) := dk_27 (dk_at dksX7_count_0 5 rfl rfl)
theorem dX7_count_6 : decode cX7_count 6 = .ok (.tableswitch 153 0 14 #[74, 81, 86, 86, 95, 108, 113, 118, 123, 128, 133, 138, 143, 143, 143], 74) := by decide +kernel
theorem dX7_count_80 : decode cX7_count 80 = .ok (.aload_n 0, 1) := dk_42 (dk_at dksX7_count_2 0 rfl rfl)
theorem dX7_count_81 : decode cX7_count 81 = .ok (.getfield 42, 3) := dk_180 0 42 (dk_at dksX7_count_2 1 rfl rfl)
theorem dX7_count_84 : decode cX7_count 84 = .ok (.iconst 0, 1) := dk_3 (dk_at dksX7_count_2 4 rfl rfl)
theorem dX7_count_85 : decode cX7_count 85 = .ok (.iaload, 1) := dk_46 (dk_at dksX7_count_2 5 rfl rfl)
theorem dX7_count_86 : decode cX7_count 86 = .ok (.ireturn, 1) := dk_172 (dk_at dksX7_count_2 6 rfl rfl)
theorem dX7_count_87 : decode cX7_count 87 = .ok (.aload_n 0, 1) := dk_42 (dk_at dksX7_count_2 7 rfl rfl)
theorem dX7_count_88 : decode cX7_count 88 = .ok (.getfield 150, 3) := dk_180 0 150 (dk_at dksX7_count_2 8 rfl rfl)
theorem dX7_count_91 : decode cX7_count 91 = .ok (.ireturn, 1) := dk_172 (dk_at dksX7_count_2 11 rfl rfl)
theorem dX7_count_92 : decode cX7_count 92 = .ok (.aload_n 0, 1) := dk_42 (dk_at dksX7_count_2 12 rfl rfl)
theorem dX7_count_93 : decode cX7_count 93 = .ok (.getfield 42, 3) := dk_180 0 42 (dk_at dksX7_count_2 13 rfl rfl)
theorem dX7_count_96 : decode cX7_count 96 = .ok (.iload_n 1, 1) := dk_27 (dk_at dksX7_count_2 16 rfl rfl)
theorem dX7_count_97 : decode cX7_count 97 = .ok (.iconst 1, 1) := dk_4 (dk_at dksX7_count_2 17 rfl rfl)
theorem dX7_count_98 : decode cX7_count 98 = .ok (.isub, 1) := dk_100 (dk_at dksX7_count_2 18 rfl rfl)
theorem dX7_count_99 : decode cX7_count 99 = .ok (.iaload, 1) := dk_46 (dk_at dksX7_count_2 19 rfl rfl)
theorem dX7_count_100 : decode cX7_count 100 = .ok (.ireturn, 1) := dk_172 (dk_at dksX7_count_2 20 rfl rfl)
theorem dX7_count_101 : decode cX7_count 101 = .ok (.aload_n 0, 1) := dk_42 (dk_at dksX7_count_2 21 rfl rfl)
theorem dX7_count_102 : decode cX7_count 102 = .ok (.invokevirtual 326, 3) := dk_182 1 70 (dk_at dksX7_count_3 0 rfl rfl)
theorem dX7_count_105 : decode cX7_count 105 = .ok (.ifCond .eq 7, 3) := dk_153 0 7 (dk_at dksX7_count_3 3 rfl rfl)
theorem dX7_count_108 : decode cX7_count 108 = .ok (.iconst 1, 1) := dk_4 (dk_at dksX7_count_3 6 rfl rfl)
theorem dX7_count_109 : decode cX7_count 109 = .ok (.goto 4, 3) := dk_167 0 4 (dk_at dksX7_count_3 7 rfl rfl)
theorem dX7_count_112 : decode cX7_count 112 = .ok (.iconst 0, 1) := dk_3 (dk_at dksX7_count_3 10 rfl rfl)
theorem dX7_count_113 : decode cX7_count 113 = .ok (.ireturn, 1) := dk_172 (dk_at dksX7_count_3 11 rfl rfl)
theorem dX7_count_114 : decode cX7_count 114 = .ok (.aload_n 0, 1) := dk_42 (dk_at dksX7_count_3 12 rfl rfl)
theorem dX7_count_115 : decode cX7_count 115 = .ok (.invokevirtual 323, 3) := dk_182 1 67 (dk_at dksX7_count_3 13 rfl rfl)
theorem dX7_count_118 : decode cX7_count 118 = .ok (.ireturn, 1) := dk_172 (dk_at dksX7_count_3 16 rfl rfl)
theorem dX7_count_119 : decode cX7_count 119 = .ok (.aload_n 0, 1) := dk_42 (dk_at dksX7_count_3 17 rfl rfl)
theorem dX7_count_120 : decode cX7_count 120 = .ok (.getfield 85, 3) := dk_180 0 85 (dk_at dksX7_count_3 18 rfl rfl)
theorem dX7_count_123 : decode cX7_count 123 = .ok (.ireturn, 1) := dk_172 (dk_at dksX7_count_3 21 rfl rfl)
theorem dX7_count_124 : decode cX7_count 124 = .ok (.aload_n 0, 1) := dk_42 (dk_at dksX7_count_3 22 rfl rfl)
theorem dX7_count_125 : decode cX7_count 125 = .ok (.invokevirtual 330, 3) := dk_182 1 74 (dk_at dksX7_count_4 0 rfl rfl)
theorem dX7_count_128 : decode cX7_count 128 = .ok (.ireturn, 1) := dk_172 (dk_at dksX7_count_4 3 rfl rfl)
theorem dX7_count_129 : decode cX7_count 129 = .ok (.aload_n 0, 1) := dk_42 (dk_at dksX7_count_4 4 rfl rfl)
theorem dX7_count_130 : decode cX7_count 130 = .ok (.getfield 282, 3) := dk_180 1 26 (dk_at dksX7_count_4 5 rfl rfl)
theorem dX7_count_133 : decode cX7_count 133 = .ok (.ireturn, 1) := dk_172 (dk_at dksX7_count_4 8 rfl rfl)
theorem dX7_count_134 : decode cX7_count 134 = .ok (.aload_n 0, 1) := dk_42 (dk_at dksX7_count_4 9 rfl rfl)
theorem dX7_count_135 : decode cX7_count 135 = .ok (.getfield 285, 3) := dk_180 1 29 (dk_at dksX7_count_4 10 rfl rfl)
theorem dX7_count_138 : decode cX7_count 138 = .ok (.ireturn, 1) := dk_172 (dk_at dksX7_count_4 13 rfl rfl)
theorem dX7_count_139 : decode cX7_count 139 = .ok (.aload_n 0, 1) := dk_42 (dk_at dksX7_count_4 14 rfl rfl)
theorem dX7_count_140 : decode cX7_count 140 = .ok (.getfield 288, 3) := dk_180 1 32 (dk_at dksX7_count_4 15 rfl rfl)
theorem dX7_count_143 : decode cX7_count 143 = .ok (.ireturn, 1) := dk_172 (dk_at dksX7_count_4 18 rfl rfl)
theorem dX7_count_144 : decode cX7_count 144 = .ok (.aload_n 0, 1) := dk_42 (dk_at dksX7_count_4 19 rfl rfl)
theorem dX7_count_145 : decode cX7_count 145 = .ok (.getfield 153, 3) := dk_180 0 153 (dk_at dksX7_count_4 20 rfl rfl)
theorem dX7_count_148 : decode cX7_count 148 = .ok (.ireturn, 1) := dk_172 (dk_at dksX7_count_4 23 rfl rfl)
theorem dX7_count_149 : decode cX7_count 149 = .ok (.aload_n 0, 1) := dk_42 (dk_at dksX7_count_5 0 rfl rfl)
theorem dX7_count_150 : decode cX7_count 150 = .ok (.getfield 60, 3) := dk_180 0 60 (dk_at dksX7_count_5 1 rfl rfl)
theorem dX7_count_153 : decode cX7_count 153 = .ok (.iload_n 1, 1) := dk_27 (dk_at dksX7_count_5 4 rfl rfl)
theorem dX7_count_154 : decode cX7_count 154 = .ok (.bipush 12, 2) := dk_16 12 (dk_at dksX7_count_5 5 rfl rfl)
theorem dX7_count_156 : decode cX7_count 156 = .ok (.isub, 1) := dk_100 (dk_at dksX7_count_5 7 rfl rfl)
theorem dX7_count_157 : decode cX7_count 157 = .ok (.iaload, 1) := dk_46 (dk_at dksX7_count_5 8 rfl rfl)
theorem dX7_count_158 : decode cX7_count 158 = .ok (.ireturn, 1) := dk_172 (dk_at dksX7_count_5 9 rfl rfl)
theorem dX7_count_159 : decode cX7_count 159 = .ok (.aload_n 0, 1) := dk_42 (dk_at dksX7_count_5 10 rfl rfl)
theorem dX7_count_160 : decode cX7_count 160 = .ok (.iconst 1, 1) := dk_4 (dk_at dksX7_count_5 11 rfl rfl)
theorem dX7_count_161 : decode cX7_count 161 = .ok (.invokevirtual 269, 3) := dk_182 1 13 (dk_at dksX7_count_5 12 rfl rfl)
theorem dX7_count_164 : decode cX7_count 164 = .ok (.ireturn, 1) := dk_172 (dk_at dksX7_count_5 15 rfl rfl)
abbrev cX7_stands : ByteArray := prog_20_method_45_code
def yX7_stands : MethodName := ⟨RX7, "stands", "()Z"⟩
def dkwX7_stands_0 : List UInt8 := [42, 182, 1, 67, 2, 160, 0, 7, 4, 167, 0, 4, 3, 172]
abbrev dktX7_stands_0 : List UInt8 := dkwX7_stands_0 ++ []
theorem dksX7_stands_0 : cX7_stands.data.toList.drop 0 = dktX7_stands_0 := by decide +kernel
theorem dX7_stands_0 : decode cX7_stands 0 = .ok (.aload_n 0, 1) := dk_42 (dk_at dksX7_stands_0 0 rfl rfl)
theorem dX7_stands_1 : decode cX7_stands 1 = .ok (.invokevirtual 323, 3) := dk_182 1 67 (dk_at dksX7_stands_0 1 rfl rfl)
theorem dX7_stands_4 : decode cX7_stands 4 = .ok (.iconst (-1), 1) := dk_2 (dk_at dksX7_stands_0 4 rfl rfl)
theorem dX7_stands_5 : decode cX7_stands 5 = .ok (.if_icmp .ne 7, 3) := dk_160 0 7 (dk_at dksX7_stands_0 5 rfl rfl)
theorem dX7_stands_8 : decode cX7_stands 8 = .ok (.iconst 1, 1) := dk_4 (dk_at dksX7_stands_0 8 rfl rfl)
theorem dX7_stands_9 : decode cX7_stands 9 = .ok (.goto 4, 3) := dk_167 0 4 (dk_at dksX7_stands_0 9 rfl rfl)
theorem dX7_stands_12 : decode cX7_stands 12 = .ok (.iconst 0, 1) := dk_3 (dk_at dksX7_stands_0 12 rfl rfl)
theorem dX7_stands_13 : decode cX7_stands 13 = .ok (.ireturn, 1) := dk_172 (dk_at dksX7_stands_0 13 rfl rfl)
abbrev cX7_breaksAt : ByteArray := prog_20_method_44_code
def yX7_breaksAt : MethodName := ⟨RX7, "breaksAt", "()I"⟩
def dkwX7_breaksAt_1 : List UInt8 := [167, 255, 235, 2, 172]
abbrev dktX7_breaksAt_1 : List UInt8 := dkwX7_breaksAt_1 ++ []
def dkwX7_breaksAt_0 : List UInt8 := [3, 60, 27, 42, 180, 0, 150, 162, 0, 19, 42, 27, 182, 1, 64, 154, 0, 5, 27, 172, 132, 1, 1]
abbrev dktX7_breaksAt_0 : List UInt8 := dkwX7_breaksAt_0 ++ dktX7_breaksAt_1
theorem dksX7_breaksAt_0 : cX7_breaksAt.data.toList.drop 0 = dktX7_breaksAt_0 := by decide +kernel
theorem dksX7_breaksAt_1 : cX7_breaksAt.data.toList.drop 23 = dktX7_breaksAt_1 := dk_seg dksX7_breaksAt_0 23 rfl rfl
theorem dX7_breaksAt_0 : decode cX7_breaksAt 0 = .ok (.iconst 0, 1) := dk_3 (dk_at dksX7_breaksAt_0 0 rfl rfl)
theorem dX7_breaksAt_1 : decode cX7_breaksAt 1 = .ok (.istore_n 1, 1) := dk_60 (dk_at dksX7_breaksAt_0 1 rfl rfl)
theorem dX7_breaksAt_2 : decode cX7_breaksAt 2 = .ok (.iload_n 1, 1) := dk_27 (dk_at dksX7_breaksAt_0 2 rfl rfl)
theorem dX7_breaksAt_3 : decode cX7_breaksAt 3 = .ok (.aload_n 0, 1) := dk_42 (dk_at dksX7_breaksAt_0 3 rfl rfl)
theorem dX7_breaksAt_4 : decode cX7_breaksAt 4 = .ok (.getfield 150, 3) := dk_180 0 150 (dk_at dksX7_breaksAt_0 4 rfl rfl)
theorem dX7_breaksAt_7 : decode cX7_breaksAt 7 = .ok (.if_icmp .ge 19, 3) := dk_162 0 19 (dk_at dksX7_breaksAt_0 7 rfl rfl)
theorem dX7_breaksAt_10 : decode cX7_breaksAt 10 = .ok (.aload_n 0, 1) := dk_42 (dk_at dksX7_breaksAt_0 10 rfl rfl)
theorem dX7_breaksAt_11 : decode cX7_breaksAt 11 = .ok (.iload_n 1, 1) := dk_27 (dk_at dksX7_breaksAt_0 11 rfl rfl)
theorem dX7_breaksAt_12 : decode cX7_breaksAt 12 = .ok (.invokevirtual 320, 3) := dk_182 1 64 (dk_at dksX7_breaksAt_0 12 rfl rfl)
theorem dX7_breaksAt_15 : decode cX7_breaksAt 15 = .ok (.ifCond .ne 5, 3) := dk_154 0 5 (dk_at dksX7_breaksAt_0 15 rfl rfl)
theorem dX7_breaksAt_18 : decode cX7_breaksAt 18 = .ok (.iload_n 1, 1) := dk_27 (dk_at dksX7_breaksAt_0 18 rfl rfl)
theorem dX7_breaksAt_19 : decode cX7_breaksAt 19 = .ok (.ireturn, 1) := dk_172 (dk_at dksX7_breaksAt_0 19 rfl rfl)
theorem dX7_breaksAt_20 : decode cX7_breaksAt 20 = .ok (.iinc 1 1, 3) := dk_132 1 1 (dk_at dksX7_breaksAt_0 20 rfl rfl)
theorem dX7_breaksAt_23 : decode cX7_breaksAt 23 = .ok (.goto (-21), 3) := dk_167 255 235 (dk_at dksX7_breaksAt_1 0 rfl rfl)
theorem dX7_breaksAt_26 : decode cX7_breaksAt 26 = .ok (.iconst (-1), 1) := dk_2 (dk_at dksX7_breaksAt_1 3 rfl rfl)
theorem dX7_breaksAt_27 : decode cX7_breaksAt 27 = .ok (.ireturn, 1) := dk_172 (dk_at dksX7_breaksAt_1 4 rfl rfl)
abbrev cX7_isHeld : ByteArray := prog_20_method_43_code
def yX7_isHeld : MethodName := ⟨RX7, "isHeld", "(I)Z"⟩
def dkwX7_isHeld_1 : List UInt8 := [180, 0, 42, 4, 46, 163, 0, 7, 4, 167, 0, 4, 3, 172]
abbrev dktX7_isHeld_1 : List UInt8 := dkwX7_isHeld_1 ++ []
def dkwX7_isHeld_0 : List UInt8 := [42, 27, 182, 1, 52, 42, 27, 182, 1, 55, 163, 0, 24, 42, 27, 182, 1, 58, 184, 1, 61, 42]
abbrev dktX7_isHeld_0 : List UInt8 := dkwX7_isHeld_0 ++ dktX7_isHeld_1
theorem dksX7_isHeld_0 : cX7_isHeld.data.toList.drop 0 = dktX7_isHeld_0 := by decide +kernel
theorem dksX7_isHeld_1 : cX7_isHeld.data.toList.drop 22 = dktX7_isHeld_1 := dk_seg dksX7_isHeld_0 22 rfl rfl
theorem dX7_isHeld_0 : decode cX7_isHeld 0 = .ok (.aload_n 0, 1) := dk_42 (dk_at dksX7_isHeld_0 0 rfl rfl)
theorem dX7_isHeld_1 : decode cX7_isHeld 1 = .ok (.iload_n 1, 1) := dk_27 (dk_at dksX7_isHeld_0 1 rfl rfl)
theorem dX7_isHeld_2 : decode cX7_isHeld 2 = .ok (.invokevirtual 308, 3) := dk_182 1 52 (dk_at dksX7_isHeld_0 2 rfl rfl)
theorem dX7_isHeld_5 : decode cX7_isHeld 5 = .ok (.aload_n 0, 1) := dk_42 (dk_at dksX7_isHeld_0 5 rfl rfl)
theorem dX7_isHeld_6 : decode cX7_isHeld 6 = .ok (.iload_n 1, 1) := dk_27 (dk_at dksX7_isHeld_0 6 rfl rfl)
theorem dX7_isHeld_7 : decode cX7_isHeld 7 = .ok (.invokevirtual 311, 3) := dk_182 1 55 (dk_at dksX7_isHeld_0 7 rfl rfl)
theorem dX7_isHeld_10 : decode cX7_isHeld 10 = .ok (.if_icmp .gt 24, 3) := dk_163 0 24 (dk_at dksX7_isHeld_0 10 rfl rfl)
theorem dX7_isHeld_13 : decode cX7_isHeld 13 = .ok (.aload_n 0, 1) := dk_42 (dk_at dksX7_isHeld_0 13 rfl rfl)
theorem dX7_isHeld_14 : decode cX7_isHeld 14 = .ok (.iload_n 1, 1) := dk_27 (dk_at dksX7_isHeld_0 14 rfl rfl)
theorem dX7_isHeld_15 : decode cX7_isHeld 15 = .ok (.invokevirtual 314, 3) := dk_182 1 58 (dk_at dksX7_isHeld_0 15 rfl rfl)
theorem dX7_isHeld_18 : decode cX7_isHeld 18 = .ok (.invokestatic 317, 3) := dk_184 1 61 (dk_at dksX7_isHeld_0 18 rfl rfl)
theorem dX7_isHeld_21 : decode cX7_isHeld 21 = .ok (.aload_n 0, 1) := dk_42 (dk_at dksX7_isHeld_0 21 rfl rfl)
theorem dX7_isHeld_22 : decode cX7_isHeld 22 = .ok (.getfield 42, 3) := dk_180 0 42 (dk_at dksX7_isHeld_1 0 rfl rfl)
theorem dX7_isHeld_25 : decode cX7_isHeld 25 = .ok (.iconst 1, 1) := dk_4 (dk_at dksX7_isHeld_1 3 rfl rfl)
theorem dX7_isHeld_26 : decode cX7_isHeld 26 = .ok (.iaload, 1) := dk_46 (dk_at dksX7_isHeld_1 4 rfl rfl)
theorem dX7_isHeld_27 : decode cX7_isHeld 27 = .ok (.if_icmp .gt 7, 3) := dk_163 0 7 (dk_at dksX7_isHeld_1 5 rfl rfl)
theorem dX7_isHeld_30 : decode cX7_isHeld 30 = .ok (.iconst 1, 1) := dk_4 (dk_at dksX7_isHeld_1 8 rfl rfl)
theorem dX7_isHeld_31 : decode cX7_isHeld 31 = .ok (.goto 4, 3) := dk_167 0 4 (dk_at dksX7_isHeld_1 9 rfl rfl)
theorem dX7_isHeld_34 : decode cX7_isHeld 34 = .ok (.iconst 0, 1) := dk_3 (dk_at dksX7_isHeld_1 12 rfl rfl)
theorem dX7_isHeld_35 : decode cX7_isHeld 35 = .ok (.ireturn, 1) := dk_172 (dk_at dksX7_isHeld_1 13 rfl rfl)
abbrev cX7_loadOn : ByteArray := prog_20_method_40_code
def yX7_loadOn : MethodName := ⟨RX7, "loadOn", "(I)I"⟩
def dkwX7_loadOn_2 : List UInt8 := [96, 61, 132, 3, 1, 167, 255, 219, 28, 172]
abbrev dktX7_loadOn_2 : List UInt8 := dkwX7_loadOn_2 ++ []
def dkwX7_loadOn_1 : List UInt8 := [28, 42, 180, 0, 47, 42, 180, 0, 70, 29, 46, 46, 42, 180, 0, 73, 42, 180, 0, 70, 29, 46, 46, 96]
abbrev dktX7_loadOn_1 : List UInt8 := dkwX7_loadOn_1 ++ dktX7_loadOn_2
def dkwX7_loadOn_0 : List UInt8 := [42, 180, 0, 73, 42, 180, 0, 70, 27, 46, 46, 61, 27, 4, 96, 62, 29, 42, 180, 0, 150, 162, 0, 35]
abbrev dktX7_loadOn_0 : List UInt8 := dkwX7_loadOn_0 ++ dktX7_loadOn_1
theorem dksX7_loadOn_0 : cX7_loadOn.data.toList.drop 0 = dktX7_loadOn_0 := by decide +kernel
theorem dksX7_loadOn_1 : cX7_loadOn.data.toList.drop 24 = dktX7_loadOn_1 := dk_seg dksX7_loadOn_0 24 rfl rfl
theorem dksX7_loadOn_2 : cX7_loadOn.data.toList.drop 48 = dktX7_loadOn_2 := dk_seg dksX7_loadOn_1 24 rfl rfl
theorem dX7_loadOn_0 : decode cX7_loadOn 0 = .ok (.aload_n 0, 1) := dk_42 (dk_at dksX7_loadOn_0 0 rfl rfl)
theorem dX7_loadOn_1 : decode cX7_loadOn 1 = .ok (.getfield 73, 3) := dk_180 0 73 (dk_at dksX7_loadOn_0 1 rfl rfl)
theorem dX7_loadOn_4 : decode cX7_loadOn 4 = .ok (.aload_n 0, 1) := dk_42 (dk_at dksX7_loadOn_0 4 rfl rfl)
theorem dX7_loadOn_5 : decode cX7_loadOn 5 = .ok (.getfield 70, 3) := dk_180 0 70 (dk_at dksX7_loadOn_0 5 rfl rfl)
theorem dX7_loadOn_8 : decode cX7_loadOn 8 = .ok (.iload_n 1, 1) := dk_27 (dk_at dksX7_loadOn_0 8 rfl rfl)
theorem dX7_loadOn_9 : decode cX7_loadOn 9 = .ok (.iaload, 1) := dk_46 (dk_at dksX7_loadOn_0 9 rfl rfl)
theorem dX7_loadOn_10 : decode cX7_loadOn 10 = .ok (.iaload, 1) := dk_46 (dk_at dksX7_loadOn_0 10 rfl rfl)
theorem dX7_loadOn_11 : decode cX7_loadOn 11 = .ok (.istore_n 2, 1) := dk_61 (dk_at dksX7_loadOn_0 11 rfl rfl)
theorem dX7_loadOn_12 : decode cX7_loadOn 12 = .ok (.iload_n 1, 1) := dk_27 (dk_at dksX7_loadOn_0 12 rfl rfl)
theorem dX7_loadOn_13 : decode cX7_loadOn 13 = .ok (.iconst 1, 1) := dk_4 (dk_at dksX7_loadOn_0 13 rfl rfl)
theorem dX7_loadOn_14 : decode cX7_loadOn 14 = .ok (.iadd, 1) := dk_96 (dk_at dksX7_loadOn_0 14 rfl rfl)
theorem dX7_loadOn_15 : decode cX7_loadOn 15 = .ok (.istore_n 3, 1) := dk_62 (dk_at dksX7_loadOn_0 15 rfl rfl)
theorem dX7_loadOn_16 : decode cX7_loadOn 16 = .ok (.iload_n 3, 1) := dk_29 (dk_at dksX7_loadOn_0 16 rfl rfl)
theorem dX7_loadOn_17 : decode cX7_loadOn 17 = .ok (.aload_n 0, 1) := dk_42 (dk_at dksX7_loadOn_0 17 rfl rfl)
theorem dX7_loadOn_18 : decode cX7_loadOn 18 = .ok (.getfield 150, 3) := dk_180 0 150 (dk_at dksX7_loadOn_0 18 rfl rfl)
theorem dX7_loadOn_21 : decode cX7_loadOn 21 = .ok (.if_icmp .ge 35, 3) := dk_162 0 35 (dk_at dksX7_loadOn_0 21 rfl rfl)
theorem dX7_loadOn_24 : decode cX7_loadOn 24 = .ok (.iload_n 2, 1) := dk_28 (dk_at dksX7_loadOn_1 0 rfl rfl)
theorem dX7_loadOn_25 : decode cX7_loadOn 25 = .ok (.aload_n 0, 1) := dk_42 (dk_at dksX7_loadOn_1 1 rfl rfl)
theorem dX7_loadOn_26 : decode cX7_loadOn 26 = .ok (.getfield 47, 3) := dk_180 0 47 (dk_at dksX7_loadOn_1 2 rfl rfl)
theorem dX7_loadOn_29 : decode cX7_loadOn 29 = .ok (.aload_n 0, 1) := dk_42 (dk_at dksX7_loadOn_1 5 rfl rfl)
theorem dX7_loadOn_30 : decode cX7_loadOn 30 = .ok (.getfield 70, 3) := dk_180 0 70 (dk_at dksX7_loadOn_1 6 rfl rfl)
theorem dX7_loadOn_33 : decode cX7_loadOn 33 = .ok (.iload_n 3, 1) := dk_29 (dk_at dksX7_loadOn_1 9 rfl rfl)
theorem dX7_loadOn_34 : decode cX7_loadOn 34 = .ok (.iaload, 1) := dk_46 (dk_at dksX7_loadOn_1 10 rfl rfl)
theorem dX7_loadOn_35 : decode cX7_loadOn 35 = .ok (.iaload, 1) := dk_46 (dk_at dksX7_loadOn_1 11 rfl rfl)
theorem dX7_loadOn_36 : decode cX7_loadOn 36 = .ok (.aload_n 0, 1) := dk_42 (dk_at dksX7_loadOn_1 12 rfl rfl)
theorem dX7_loadOn_37 : decode cX7_loadOn 37 = .ok (.getfield 73, 3) := dk_180 0 73 (dk_at dksX7_loadOn_1 13 rfl rfl)
theorem dX7_loadOn_40 : decode cX7_loadOn 40 = .ok (.aload_n 0, 1) := dk_42 (dk_at dksX7_loadOn_1 16 rfl rfl)
theorem dX7_loadOn_41 : decode cX7_loadOn 41 = .ok (.getfield 70, 3) := dk_180 0 70 (dk_at dksX7_loadOn_1 17 rfl rfl)
theorem dX7_loadOn_44 : decode cX7_loadOn 44 = .ok (.iload_n 3, 1) := dk_29 (dk_at dksX7_loadOn_1 20 rfl rfl)
theorem dX7_loadOn_45 : decode cX7_loadOn 45 = .ok (.iaload, 1) := dk_46 (dk_at dksX7_loadOn_1 21 rfl rfl)
theorem dX7_loadOn_46 : decode cX7_loadOn 46 = .ok (.iaload, 1) := dk_46 (dk_at dksX7_loadOn_1 22 rfl rfl)
theorem dX7_loadOn_47 : decode cX7_loadOn 47 = .ok (.iadd, 1) := dk_96 (dk_at dksX7_loadOn_1 23 rfl rfl)
theorem dX7_loadOn_48 : decode cX7_loadOn 48 = .ok (.iadd, 1) := dk_96 (dk_at dksX7_loadOn_2 0 rfl rfl)
theorem dX7_loadOn_49 : decode cX7_loadOn 49 = .ok (.istore_n 2, 1) := dk_61 (dk_at dksX7_loadOn_2 1 rfl rfl)
theorem dX7_loadOn_50 : decode cX7_loadOn 50 = .ok (.iinc 3 1, 3) := dk_132 3 1 (dk_at dksX7_loadOn_2 2 rfl rfl)
theorem dX7_loadOn_53 : decode cX7_loadOn 53 = .ok (.goto (-37), 3) := dk_167 255 219 (dk_at dksX7_loadOn_2 5 rfl rfl)
theorem dX7_loadOn_56 : decode cX7_loadOn 56 = .ok (.iload_n 2, 1) := dk_28 (dk_at dksX7_loadOn_2 8 rfl rfl)
theorem dX7_loadOn_57 : decode cX7_loadOn 57 = .ok (.ireturn, 1) := dk_172 (dk_at dksX7_loadOn_2 9 rfl rfl)
abbrev cX7_carriedBy : ByteArray := prog_20_method_41_code
def yX7_carriedBy : MethodName := ⟨RX7, "carriedBy", "(I)I"⟩
def dkwX7_carriedBy_1 : List UInt8 := [182, 1, 45, 172]
abbrev dktX7_carriedBy_1 : List UInt8 := dkwX7_carriedBy_1 ++ []
def dkwX7_carriedBy_0 : List UInt8 := [42, 42, 180, 0, 70, 27, 46, 27, 42, 180, 0, 150, 4, 100, 160, 0, 7, 4, 167, 0, 4, 3]
abbrev dktX7_carriedBy_0 : List UInt8 := dkwX7_carriedBy_0 ++ dktX7_carriedBy_1
theorem dksX7_carriedBy_0 : cX7_carriedBy.data.toList.drop 0 = dktX7_carriedBy_0 := by decide +kernel
theorem dksX7_carriedBy_1 : cX7_carriedBy.data.toList.drop 22 = dktX7_carriedBy_1 := dk_seg dksX7_carriedBy_0 22 rfl rfl
theorem dX7_carriedBy_0 : decode cX7_carriedBy 0 = .ok (.aload_n 0, 1) := dk_42 (dk_at dksX7_carriedBy_0 0 rfl rfl)
theorem dX7_carriedBy_1 : decode cX7_carriedBy 1 = .ok (.aload_n 0, 1) := dk_42 (dk_at dksX7_carriedBy_0 1 rfl rfl)
theorem dX7_carriedBy_2 : decode cX7_carriedBy 2 = .ok (.getfield 70, 3) := dk_180 0 70 (dk_at dksX7_carriedBy_0 2 rfl rfl)
theorem dX7_carriedBy_5 : decode cX7_carriedBy 5 = .ok (.iload_n 1, 1) := dk_27 (dk_at dksX7_carriedBy_0 5 rfl rfl)
theorem dX7_carriedBy_6 : decode cX7_carriedBy 6 = .ok (.iaload, 1) := dk_46 (dk_at dksX7_carriedBy_0 6 rfl rfl)
theorem dX7_carriedBy_7 : decode cX7_carriedBy 7 = .ok (.iload_n 1, 1) := dk_27 (dk_at dksX7_carriedBy_0 7 rfl rfl)
theorem dX7_carriedBy_8 : decode cX7_carriedBy 8 = .ok (.aload_n 0, 1) := dk_42 (dk_at dksX7_carriedBy_0 8 rfl rfl)
theorem dX7_carriedBy_9 : decode cX7_carriedBy 9 = .ok (.getfield 150, 3) := dk_180 0 150 (dk_at dksX7_carriedBy_0 9 rfl rfl)
theorem dX7_carriedBy_12 : decode cX7_carriedBy 12 = .ok (.iconst 1, 1) := dk_4 (dk_at dksX7_carriedBy_0 12 rfl rfl)
theorem dX7_carriedBy_13 : decode cX7_carriedBy 13 = .ok (.isub, 1) := dk_100 (dk_at dksX7_carriedBy_0 13 rfl rfl)
theorem dX7_carriedBy_14 : decode cX7_carriedBy 14 = .ok (.if_icmp .ne 7, 3) := dk_160 0 7 (dk_at dksX7_carriedBy_0 14 rfl rfl)
theorem dX7_carriedBy_17 : decode cX7_carriedBy 17 = .ok (.iconst 1, 1) := dk_4 (dk_at dksX7_carriedBy_0 17 rfl rfl)
theorem dX7_carriedBy_18 : decode cX7_carriedBy 18 = .ok (.goto 4, 3) := dk_167 0 4 (dk_at dksX7_carriedBy_0 18 rfl rfl)
theorem dX7_carriedBy_21 : decode cX7_carriedBy 21 = .ok (.iconst 0, 1) := dk_3 (dk_at dksX7_carriedBy_0 21 rfl rfl)
theorem dX7_carriedBy_22 : decode cX7_carriedBy 22 = .ok (.invokevirtual 301, 3) := dk_182 1 45 (dk_at dksX7_carriedBy_1 0 rfl rfl)
theorem dX7_carriedBy_25 : decode cX7_carriedBy 25 = .ok (.ireturn, 1) := dk_172 (dk_at dksX7_carriedBy_1 3 rfl rfl)
abbrev cX7_carries : ByteArray := prog_20_method_38_code
def yX7_carries : MethodName := ⟨RX7, "carries", "(IZ)I"⟩
def dkwX7_carries_1 : List UInt8 := [167, 0, 9, 42, 180, 0, 49, 27, 46, 62, 3, 29, 42, 27, 182, 1, 39, 100, 184, 1, 42, 172]
abbrev dktX7_carries_1 : List UInt8 := dkwX7_carries_1 ++ []
def dkwX7_carries_0 : List UInt8 := [42, 180, 0, 45, 27, 46, 5, 160, 0, 18, 28, 154, 0, 14, 42, 180, 0, 49, 27, 46, 5, 108]
abbrev dktX7_carries_0 : List UInt8 := dkwX7_carries_0 ++ dktX7_carries_1
theorem dksX7_carries_0 : cX7_carries.data.toList.drop 0 = dktX7_carries_0 := by decide +kernel
theorem dksX7_carries_1 : cX7_carries.data.toList.drop 22 = dktX7_carries_1 := dk_seg dksX7_carries_0 22 rfl rfl
theorem dX7_carries_0 : decode cX7_carries 0 = .ok (.aload_n 0, 1) := dk_42 (dk_at dksX7_carries_0 0 rfl rfl)
theorem dX7_carries_1 : decode cX7_carries 1 = .ok (.getfield 45, 3) := dk_180 0 45 (dk_at dksX7_carries_0 1 rfl rfl)
theorem dX7_carries_4 : decode cX7_carries 4 = .ok (.iload_n 1, 1) := dk_27 (dk_at dksX7_carries_0 4 rfl rfl)
theorem dX7_carries_5 : decode cX7_carries 5 = .ok (.iaload, 1) := dk_46 (dk_at dksX7_carries_0 5 rfl rfl)
theorem dX7_carries_6 : decode cX7_carries 6 = .ok (.iconst 2, 1) := dk_5 (dk_at dksX7_carries_0 6 rfl rfl)
theorem dX7_carries_7 : decode cX7_carries 7 = .ok (.if_icmp .ne 18, 3) := dk_160 0 18 (dk_at dksX7_carries_0 7 rfl rfl)
theorem dX7_carries_10 : decode cX7_carries 10 = .ok (.iload_n 2, 1) := dk_28 (dk_at dksX7_carries_0 10 rfl rfl)
theorem dX7_carries_11 : decode cX7_carries 11 = .ok (.ifCond .ne 14, 3) := dk_154 0 14 (dk_at dksX7_carries_0 11 rfl rfl)
theorem dX7_carries_14 : decode cX7_carries 14 = .ok (.aload_n 0, 1) := dk_42 (dk_at dksX7_carries_0 14 rfl rfl)
theorem dX7_carries_15 : decode cX7_carries 15 = .ok (.getfield 49, 3) := dk_180 0 49 (dk_at dksX7_carries_0 15 rfl rfl)
theorem dX7_carries_18 : decode cX7_carries 18 = .ok (.iload_n 1, 1) := dk_27 (dk_at dksX7_carries_0 18 rfl rfl)
theorem dX7_carries_19 : decode cX7_carries 19 = .ok (.iaload, 1) := dk_46 (dk_at dksX7_carries_0 19 rfl rfl)
theorem dX7_carries_20 : decode cX7_carries 20 = .ok (.iconst 2, 1) := dk_5 (dk_at dksX7_carries_0 20 rfl rfl)
theorem dX7_carries_21 : decode cX7_carries 21 = .ok (.idiv, 1) := dk_108 (dk_at dksX7_carries_0 21 rfl rfl)
theorem dX7_carries_22 : decode cX7_carries 22 = .ok (.goto 9, 3) := dk_167 0 9 (dk_at dksX7_carries_1 0 rfl rfl)
theorem dX7_carries_25 : decode cX7_carries 25 = .ok (.aload_n 0, 1) := dk_42 (dk_at dksX7_carries_1 3 rfl rfl)
theorem dX7_carries_26 : decode cX7_carries 26 = .ok (.getfield 49, 3) := dk_180 0 49 (dk_at dksX7_carries_1 4 rfl rfl)
theorem dX7_carries_29 : decode cX7_carries 29 = .ok (.iload_n 1, 1) := dk_27 (dk_at dksX7_carries_1 7 rfl rfl)
theorem dX7_carries_30 : decode cX7_carries 30 = .ok (.iaload, 1) := dk_46 (dk_at dksX7_carries_1 8 rfl rfl)
theorem dX7_carries_31 : decode cX7_carries 31 = .ok (.istore_n 3, 1) := dk_62 (dk_at dksX7_carries_1 9 rfl rfl)
theorem dX7_carries_32 : decode cX7_carries 32 = .ok (.iconst 0, 1) := dk_3 (dk_at dksX7_carries_1 10 rfl rfl)
theorem dX7_carries_33 : decode cX7_carries 33 = .ok (.iload_n 3, 1) := dk_29 (dk_at dksX7_carries_1 11 rfl rfl)
theorem dX7_carries_34 : decode cX7_carries 34 = .ok (.aload_n 0, 1) := dk_42 (dk_at dksX7_carries_1 12 rfl rfl)
theorem dX7_carries_35 : decode cX7_carries 35 = .ok (.iload_n 1, 1) := dk_27 (dk_at dksX7_carries_1 13 rfl rfl)
theorem dX7_carries_36 : decode cX7_carries 36 = .ok (.invokevirtual 295, 3) := dk_182 1 39 (dk_at dksX7_carries_1 14 rfl rfl)
theorem dX7_carries_39 : decode cX7_carries 39 = .ok (.isub, 1) := dk_100 (dk_at dksX7_carries_1 17 rfl rfl)
theorem dX7_carries_40 : decode cX7_carries 40 = .ok (.invokestatic 298, 3) := dk_184 1 42 (dk_at dksX7_carries_1 18 rfl rfl)
theorem dX7_carries_43 : decode cX7_carries 43 = .ok (.ireturn, 1) := dk_172 (dk_at dksX7_carries_1 21 rfl rfl)
abbrev cX7_worm : ByteArray := prog_20_method_37_code
def yX7_worm : MethodName := ⟨RX7, "worm", "(I)I"⟩
def dkwX7_worm_0 : List UInt8 := [42, 180, 0, 38, 42, 180, 0, 45, 27, 46, 46, 42, 180, 1, 26, 104, 172]
abbrev dktX7_worm_0 : List UInt8 := dkwX7_worm_0 ++ []
theorem dksX7_worm_0 : cX7_worm.data.toList.drop 0 = dktX7_worm_0 := by decide +kernel
theorem dX7_worm_0 : decode cX7_worm 0 = .ok (.aload_n 0, 1) := dk_42 (dk_at dksX7_worm_0 0 rfl rfl)
theorem dX7_worm_1 : decode cX7_worm 1 = .ok (.getfield 38, 3) := dk_180 0 38 (dk_at dksX7_worm_0 1 rfl rfl)
theorem dX7_worm_4 : decode cX7_worm 4 = .ok (.aload_n 0, 1) := dk_42 (dk_at dksX7_worm_0 4 rfl rfl)
theorem dX7_worm_5 : decode cX7_worm 5 = .ok (.getfield 45, 3) := dk_180 0 45 (dk_at dksX7_worm_0 5 rfl rfl)
theorem dX7_worm_8 : decode cX7_worm 8 = .ok (.iload_n 1, 1) := dk_27 (dk_at dksX7_worm_0 8 rfl rfl)
theorem dX7_worm_9 : decode cX7_worm 9 = .ok (.iaload, 1) := dk_46 (dk_at dksX7_worm_0 9 rfl rfl)
theorem dX7_worm_10 : decode cX7_worm 10 = .ok (.iaload, 1) := dk_46 (dk_at dksX7_worm_0 10 rfl rfl)
theorem dX7_worm_11 : decode cX7_worm 11 = .ok (.aload_n 0, 1) := dk_42 (dk_at dksX7_worm_0 11 rfl rfl)
theorem dX7_worm_12 : decode cX7_worm 12 = .ok (.getfield 282, 3) := dk_180 1 26 (dk_at dksX7_worm_0 12 rfl rfl)
theorem dX7_worm_15 : decode cX7_worm 15 = .ok (.imul, 1) := dk_104 (dk_at dksX7_worm_0 15 rfl rfl)
theorem dX7_worm_16 : decode cX7_worm 16 = .ok (.ireturn, 1) := dk_172 (dk_at dksX7_worm_0 16 rfl rfl)
abbrev cX7_tiltAt : ByteArray := prog_20_method_42_code
def yX7_tiltAt : MethodName := ⟨RX7, "tiltAt", "(I)I"⟩
def dkwX7_tiltAt_1 : List UInt8 := [132, 3, 1, 167, 255, 235, 28, 172]
abbrev dktX7_tiltAt_1 : List UInt8 := dkwX7_tiltAt_1 ++ []
def dkwX7_tiltAt_0 : List UInt8 := [3, 61, 3, 62, 29, 27, 163, 0, 22, 28, 42, 42, 180, 0, 70, 29, 46, 182, 1, 49, 96, 61]
abbrev dktX7_tiltAt_0 : List UInt8 := dkwX7_tiltAt_0 ++ dktX7_tiltAt_1
theorem dksX7_tiltAt_0 : cX7_tiltAt.data.toList.drop 0 = dktX7_tiltAt_0 := by decide +kernel
theorem dksX7_tiltAt_1 : cX7_tiltAt.data.toList.drop 22 = dktX7_tiltAt_1 := dk_seg dksX7_tiltAt_0 22 rfl rfl
theorem dX7_tiltAt_0 : decode cX7_tiltAt 0 = .ok (.iconst 0, 1) := dk_3 (dk_at dksX7_tiltAt_0 0 rfl rfl)
theorem dX7_tiltAt_1 : decode cX7_tiltAt 1 = .ok (.istore_n 2, 1) := dk_61 (dk_at dksX7_tiltAt_0 1 rfl rfl)
theorem dX7_tiltAt_2 : decode cX7_tiltAt 2 = .ok (.iconst 0, 1) := dk_3 (dk_at dksX7_tiltAt_0 2 rfl rfl)
theorem dX7_tiltAt_3 : decode cX7_tiltAt 3 = .ok (.istore_n 3, 1) := dk_62 (dk_at dksX7_tiltAt_0 3 rfl rfl)
theorem dX7_tiltAt_4 : decode cX7_tiltAt 4 = .ok (.iload_n 3, 1) := dk_29 (dk_at dksX7_tiltAt_0 4 rfl rfl)
theorem dX7_tiltAt_5 : decode cX7_tiltAt 5 = .ok (.iload_n 1, 1) := dk_27 (dk_at dksX7_tiltAt_0 5 rfl rfl)
theorem dX7_tiltAt_6 : decode cX7_tiltAt 6 = .ok (.if_icmp .gt 22, 3) := dk_163 0 22 (dk_at dksX7_tiltAt_0 6 rfl rfl)
theorem dX7_tiltAt_9 : decode cX7_tiltAt 9 = .ok (.iload_n 2, 1) := dk_28 (dk_at dksX7_tiltAt_0 9 rfl rfl)
theorem dX7_tiltAt_10 : decode cX7_tiltAt 10 = .ok (.aload_n 0, 1) := dk_42 (dk_at dksX7_tiltAt_0 10 rfl rfl)
theorem dX7_tiltAt_11 : decode cX7_tiltAt 11 = .ok (.aload_n 0, 1) := dk_42 (dk_at dksX7_tiltAt_0 11 rfl rfl)
theorem dX7_tiltAt_12 : decode cX7_tiltAt 12 = .ok (.getfield 70, 3) := dk_180 0 70 (dk_at dksX7_tiltAt_0 12 rfl rfl)
theorem dX7_tiltAt_15 : decode cX7_tiltAt 15 = .ok (.iload_n 3, 1) := dk_29 (dk_at dksX7_tiltAt_0 15 rfl rfl)
theorem dX7_tiltAt_16 : decode cX7_tiltAt 16 = .ok (.iaload, 1) := dk_46 (dk_at dksX7_tiltAt_0 16 rfl rfl)
theorem dX7_tiltAt_17 : decode cX7_tiltAt 17 = .ok (.invokevirtual 305, 3) := dk_182 1 49 (dk_at dksX7_tiltAt_0 17 rfl rfl)
theorem dX7_tiltAt_20 : decode cX7_tiltAt 20 = .ok (.iadd, 1) := dk_96 (dk_at dksX7_tiltAt_0 20 rfl rfl)
theorem dX7_tiltAt_21 : decode cX7_tiltAt 21 = .ok (.istore_n 2, 1) := dk_61 (dk_at dksX7_tiltAt_0 21 rfl rfl)
theorem dX7_tiltAt_22 : decode cX7_tiltAt 22 = .ok (.iinc 3 1, 3) := dk_132 3 1 (dk_at dksX7_tiltAt_1 0 rfl rfl)
theorem dX7_tiltAt_25 : decode cX7_tiltAt 25 = .ok (.goto (-21), 3) := dk_167 255 235 (dk_at dksX7_tiltAt_1 3 rfl rfl)
theorem dX7_tiltAt_28 : decode cX7_tiltAt 28 = .ok (.iload_n 2, 1) := dk_28 (dk_at dksX7_tiltAt_1 6 rfl rfl)
theorem dX7_tiltAt_29 : decode cX7_tiltAt 29 = .ok (.ireturn, 1) := dk_172 (dk_at dksX7_tiltAt_1 7 rfl rfl)
abbrev cX7_turns : ByteArray := prog_20_method_39_code
def yX7_turns : MethodName := ⟨RX7, "turns", "(I)I"⟩
def dkwX7_turns_1 : List UInt8 := [104, 167, 0, 16, 42, 180, 0, 79, 27, 46, 42, 180, 0, 76, 27, 46, 96, 172]
abbrev dktX7_turns_1 : List UInt8 := dkwX7_turns_1 ++ []
def dkwX7_turns_0 : List UInt8 := [42, 180, 0, 45, 27, 46, 6, 160, 0, 21, 5, 42, 180, 0, 79, 27, 46, 42, 180, 0, 76, 27, 46, 96]
abbrev dktX7_turns_0 : List UInt8 := dkwX7_turns_0 ++ dktX7_turns_1
theorem dksX7_turns_0 : cX7_turns.data.toList.drop 0 = dktX7_turns_0 := by decide +kernel
theorem dksX7_turns_1 : cX7_turns.data.toList.drop 24 = dktX7_turns_1 := dk_seg dksX7_turns_0 24 rfl rfl
theorem dX7_turns_0 : decode cX7_turns 0 = .ok (.aload_n 0, 1) := dk_42 (dk_at dksX7_turns_0 0 rfl rfl)
theorem dX7_turns_1 : decode cX7_turns 1 = .ok (.getfield 45, 3) := dk_180 0 45 (dk_at dksX7_turns_0 1 rfl rfl)
theorem dX7_turns_4 : decode cX7_turns 4 = .ok (.iload_n 1, 1) := dk_27 (dk_at dksX7_turns_0 4 rfl rfl)
theorem dX7_turns_5 : decode cX7_turns 5 = .ok (.iaload, 1) := dk_46 (dk_at dksX7_turns_0 5 rfl rfl)
theorem dX7_turns_6 : decode cX7_turns 6 = .ok (.iconst 3, 1) := dk_6 (dk_at dksX7_turns_0 6 rfl rfl)
theorem dX7_turns_7 : decode cX7_turns 7 = .ok (.if_icmp .ne 21, 3) := dk_160 0 21 (dk_at dksX7_turns_0 7 rfl rfl)
theorem dX7_turns_10 : decode cX7_turns 10 = .ok (.iconst 2, 1) := dk_5 (dk_at dksX7_turns_0 10 rfl rfl)
theorem dX7_turns_11 : decode cX7_turns 11 = .ok (.aload_n 0, 1) := dk_42 (dk_at dksX7_turns_0 11 rfl rfl)
theorem dX7_turns_12 : decode cX7_turns 12 = .ok (.getfield 79, 3) := dk_180 0 79 (dk_at dksX7_turns_0 12 rfl rfl)
theorem dX7_turns_15 : decode cX7_turns 15 = .ok (.iload_n 1, 1) := dk_27 (dk_at dksX7_turns_0 15 rfl rfl)
theorem dX7_turns_16 : decode cX7_turns 16 = .ok (.iaload, 1) := dk_46 (dk_at dksX7_turns_0 16 rfl rfl)
theorem dX7_turns_17 : decode cX7_turns 17 = .ok (.aload_n 0, 1) := dk_42 (dk_at dksX7_turns_0 17 rfl rfl)
theorem dX7_turns_18 : decode cX7_turns 18 = .ok (.getfield 76, 3) := dk_180 0 76 (dk_at dksX7_turns_0 18 rfl rfl)
theorem dX7_turns_21 : decode cX7_turns 21 = .ok (.iload_n 1, 1) := dk_27 (dk_at dksX7_turns_0 21 rfl rfl)
theorem dX7_turns_22 : decode cX7_turns 22 = .ok (.iaload, 1) := dk_46 (dk_at dksX7_turns_0 22 rfl rfl)
theorem dX7_turns_23 : decode cX7_turns 23 = .ok (.iadd, 1) := dk_96 (dk_at dksX7_turns_0 23 rfl rfl)
theorem dX7_turns_24 : decode cX7_turns 24 = .ok (.imul, 1) := dk_104 (dk_at dksX7_turns_1 0 rfl rfl)
theorem dX7_turns_25 : decode cX7_turns 25 = .ok (.goto 16, 3) := dk_167 0 16 (dk_at dksX7_turns_1 1 rfl rfl)
theorem dX7_turns_28 : decode cX7_turns 28 = .ok (.aload_n 0, 1) := dk_42 (dk_at dksX7_turns_1 4 rfl rfl)
theorem dX7_turns_29 : decode cX7_turns 29 = .ok (.getfield 79, 3) := dk_180 0 79 (dk_at dksX7_turns_1 5 rfl rfl)
theorem dX7_turns_32 : decode cX7_turns 32 = .ok (.iload_n 1, 1) := dk_27 (dk_at dksX7_turns_1 8 rfl rfl)
theorem dX7_turns_33 : decode cX7_turns 33 = .ok (.iaload, 1) := dk_46 (dk_at dksX7_turns_1 9 rfl rfl)
theorem dX7_turns_34 : decode cX7_turns 34 = .ok (.aload_n 0, 1) := dk_42 (dk_at dksX7_turns_1 10 rfl rfl)
theorem dX7_turns_35 : decode cX7_turns 35 = .ok (.getfield 76, 3) := dk_180 0 76 (dk_at dksX7_turns_1 11 rfl rfl)
theorem dX7_turns_38 : decode cX7_turns 38 = .ok (.iload_n 1, 1) := dk_27 (dk_at dksX7_turns_1 14 rfl rfl)
theorem dX7_turns_39 : decode cX7_turns 39 = .ok (.iaload, 1) := dk_46 (dk_at dksX7_turns_1 15 rfl rfl)
theorem dX7_turns_40 : decode cX7_turns 40 = .ok (.iadd, 1) := dk_96 (dk_at dksX7_turns_1 16 rfl rfl)
theorem dX7_turns_41 : decode cX7_turns 41 = .ok (.ireturn, 1) := dk_172 (dk_at dksX7_turns_1 17 rfl rfl)
abbrev cX7_fullNow : ByteArray := prog_20_method_47_code
def yX7_fullNow : MethodName := ⟨RX7, "fullNow", "()I"⟩
def dkwX7_fullNow_2 : List UInt8 := [167, 0, 4, 3, 128, 60, 132, 2, 1, 167, 255, 205, 27, 172]
abbrev dktX7_fullNow_2 : List UInt8 := dkwX7_fullNow_2 ++ []
def dkwX7_fullNow_1 : List UInt8 := [42, 180, 0, 55, 42, 180, 0, 70, 28, 46, 46, 161, 0, 14, 4, 42, 180, 0, 70, 28, 46, 120]
abbrev dktX7_fullNow_1 : List UInt8 := dkwX7_fullNow_1 ++ dktX7_fullNow_2
def dkwX7_fullNow_0 : List UInt8 := [3, 60, 3, 61, 28, 42, 180, 0, 150, 162, 0, 49, 27, 42, 180, 0, 73, 42, 180, 0, 70, 28, 46, 46]
abbrev dktX7_fullNow_0 : List UInt8 := dkwX7_fullNow_0 ++ dktX7_fullNow_1
theorem dksX7_fullNow_0 : cX7_fullNow.data.toList.drop 0 = dktX7_fullNow_0 := by decide +kernel
theorem dksX7_fullNow_1 : cX7_fullNow.data.toList.drop 24 = dktX7_fullNow_1 := dk_seg dksX7_fullNow_0 24 rfl rfl
theorem dksX7_fullNow_2 : cX7_fullNow.data.toList.drop 46 = dktX7_fullNow_2 := dk_seg dksX7_fullNow_1 22 rfl rfl
theorem dX7_fullNow_0 : decode cX7_fullNow 0 = .ok (.iconst 0, 1) := dk_3 (dk_at dksX7_fullNow_0 0 rfl rfl)
theorem dX7_fullNow_1 : decode cX7_fullNow 1 = .ok (.istore_n 1, 1) := dk_60 (dk_at dksX7_fullNow_0 1 rfl rfl)
theorem dX7_fullNow_2 : decode cX7_fullNow 2 = .ok (.iconst 0, 1) := dk_3 (dk_at dksX7_fullNow_0 2 rfl rfl)
theorem dX7_fullNow_3 : decode cX7_fullNow 3 = .ok (.istore_n 2, 1) := dk_61 (dk_at dksX7_fullNow_0 3 rfl rfl)
theorem dX7_fullNow_4 : decode cX7_fullNow 4 = .ok (.iload_n 2, 1) := dk_28 (dk_at dksX7_fullNow_0 4 rfl rfl)
theorem dX7_fullNow_5 : decode cX7_fullNow 5 = .ok (.aload_n 0, 1) := dk_42 (dk_at dksX7_fullNow_0 5 rfl rfl)
theorem dX7_fullNow_6 : decode cX7_fullNow 6 = .ok (.getfield 150, 3) := dk_180 0 150 (dk_at dksX7_fullNow_0 6 rfl rfl)
theorem dX7_fullNow_9 : decode cX7_fullNow 9 = .ok (.if_icmp .ge 49, 3) := dk_162 0 49 (dk_at dksX7_fullNow_0 9 rfl rfl)
theorem dX7_fullNow_12 : decode cX7_fullNow 12 = .ok (.iload_n 1, 1) := dk_27 (dk_at dksX7_fullNow_0 12 rfl rfl)
theorem dX7_fullNow_13 : decode cX7_fullNow 13 = .ok (.aload_n 0, 1) := dk_42 (dk_at dksX7_fullNow_0 13 rfl rfl)
theorem dX7_fullNow_14 : decode cX7_fullNow 14 = .ok (.getfield 73, 3) := dk_180 0 73 (dk_at dksX7_fullNow_0 14 rfl rfl)
theorem dX7_fullNow_17 : decode cX7_fullNow 17 = .ok (.aload_n 0, 1) := dk_42 (dk_at dksX7_fullNow_0 17 rfl rfl)
theorem dX7_fullNow_18 : decode cX7_fullNow 18 = .ok (.getfield 70, 3) := dk_180 0 70 (dk_at dksX7_fullNow_0 18 rfl rfl)
theorem dX7_fullNow_21 : decode cX7_fullNow 21 = .ok (.iload_n 2, 1) := dk_28 (dk_at dksX7_fullNow_0 21 rfl rfl)
theorem dX7_fullNow_22 : decode cX7_fullNow 22 = .ok (.iaload, 1) := dk_46 (dk_at dksX7_fullNow_0 22 rfl rfl)
theorem dX7_fullNow_23 : decode cX7_fullNow 23 = .ok (.iaload, 1) := dk_46 (dk_at dksX7_fullNow_0 23 rfl rfl)
theorem dX7_fullNow_24 : decode cX7_fullNow 24 = .ok (.aload_n 0, 1) := dk_42 (dk_at dksX7_fullNow_1 0 rfl rfl)
theorem dX7_fullNow_25 : decode cX7_fullNow 25 = .ok (.getfield 55, 3) := dk_180 0 55 (dk_at dksX7_fullNow_1 1 rfl rfl)
theorem dX7_fullNow_28 : decode cX7_fullNow 28 = .ok (.aload_n 0, 1) := dk_42 (dk_at dksX7_fullNow_1 4 rfl rfl)
theorem dX7_fullNow_29 : decode cX7_fullNow 29 = .ok (.getfield 70, 3) := dk_180 0 70 (dk_at dksX7_fullNow_1 5 rfl rfl)
theorem dX7_fullNow_32 : decode cX7_fullNow 32 = .ok (.iload_n 2, 1) := dk_28 (dk_at dksX7_fullNow_1 8 rfl rfl)
theorem dX7_fullNow_33 : decode cX7_fullNow 33 = .ok (.iaload, 1) := dk_46 (dk_at dksX7_fullNow_1 9 rfl rfl)
theorem dX7_fullNow_34 : decode cX7_fullNow 34 = .ok (.iaload, 1) := dk_46 (dk_at dksX7_fullNow_1 10 rfl rfl)
theorem dX7_fullNow_35 : decode cX7_fullNow 35 = .ok (.if_icmp .lt 14, 3) := dk_161 0 14 (dk_at dksX7_fullNow_1 11 rfl rfl)
theorem dX7_fullNow_38 : decode cX7_fullNow 38 = .ok (.iconst 1, 1) := dk_4 (dk_at dksX7_fullNow_1 14 rfl rfl)
theorem dX7_fullNow_39 : decode cX7_fullNow 39 = .ok (.aload_n 0, 1) := dk_42 (dk_at dksX7_fullNow_1 15 rfl rfl)
theorem dX7_fullNow_40 : decode cX7_fullNow 40 = .ok (.getfield 70, 3) := dk_180 0 70 (dk_at dksX7_fullNow_1 16 rfl rfl)
theorem dX7_fullNow_43 : decode cX7_fullNow 43 = .ok (.iload_n 2, 1) := dk_28 (dk_at dksX7_fullNow_1 19 rfl rfl)
theorem dX7_fullNow_44 : decode cX7_fullNow 44 = .ok (.iaload, 1) := dk_46 (dk_at dksX7_fullNow_1 20 rfl rfl)
theorem dX7_fullNow_45 : decode cX7_fullNow 45 = .ok (.ishl, 1) := dk_120 (dk_at dksX7_fullNow_1 21 rfl rfl)
theorem dX7_fullNow_46 : decode cX7_fullNow 46 = .ok (.goto 4, 3) := dk_167 0 4 (dk_at dksX7_fullNow_2 0 rfl rfl)
theorem dX7_fullNow_49 : decode cX7_fullNow 49 = .ok (.iconst 0, 1) := dk_3 (dk_at dksX7_fullNow_2 3 rfl rfl)
theorem dX7_fullNow_50 : decode cX7_fullNow 50 = .ok (.ior, 1) := dk_128 (dk_at dksX7_fullNow_2 4 rfl rfl)
theorem dX7_fullNow_51 : decode cX7_fullNow 51 = .ok (.istore_n 1, 1) := dk_60 (dk_at dksX7_fullNow_2 5 rfl rfl)
theorem dX7_fullNow_52 : decode cX7_fullNow 52 = .ok (.iinc 2 1, 3) := dk_132 2 1 (dk_at dksX7_fullNow_2 6 rfl rfl)
theorem dX7_fullNow_55 : decode cX7_fullNow 55 = .ok (.goto (-51), 3) := dk_167 255 205 (dk_at dksX7_fullNow_2 9 rfl rfl)
theorem dX7_fullNow_58 : decode cX7_fullNow 58 = .ok (.iload_n 1, 1) := dk_27 (dk_at dksX7_fullNow_2 12 rfl rfl)
theorem dX7_fullNow_59 : decode cX7_fullNow 59 = .ok (.ireturn, 1) := dk_172 (dk_at dksX7_fullNow_2 13 rfl rfl)
abbrev cX7_table : ByteArray := prog_20_method_50_code
def yX7_table : MethodName := ⟨RX7, "table", "(II)I"⟩
def dkwX7_table_5 : List UInt8 := [172]
abbrev dktX7_table_5 : List UInt8 := dkwX7_table_5 ++ []
def dkwX7_table_4 : List UInt8 := [180, 0, 73, 27, 46, 172, 42, 180, 0, 76, 27, 46, 172, 42, 27, 182, 1, 80, 172, 42, 4, 182, 1, 13]
abbrev dktX7_table_4 : List UInt8 := dkwX7_table_4 ++ dktX7_table_5
def dkwX7_table_3 : List UInt8 := [182, 1, 39, 100, 184, 1, 42, 172, 42, 180, 0, 79, 27, 46, 172, 42, 180, 0, 55, 27, 46, 172, 42]
abbrev dktX7_table_3 : List UInt8 := dkwX7_table_3 ++ dktX7_table_4
def dkwX7_table_2 : List UInt8 := [42, 180, 0, 45, 27, 46, 172, 42, 180, 0, 47, 27, 46, 172, 3, 42, 180, 0, 49, 27, 46, 42, 27]
abbrev dktX7_table_2 : List UInt8 := dkwX7_table_2 ++ dktX7_table_3
def dkwX7_table_1 : List UInt8 := [170, 0, 0, 0, 0, 0, 0, 113, 0, 0, 0, 0, 0, 0, 0, 7, 0, 0, 0, 48, 0, 0, 0, 55, 0, 0, 0, 62, 0, 0, 0, 79, 0, 0, 0, 86, 0, 0, 0, 93, 0, 0, 0, 100, 0, 0, 0, 107]
abbrev dktX7_table_1 : List UInt8 := dkwX7_table_1 ++ dktX7_table_2
def dkwX7_table_0 : List UInt8 := [42, 3, 181, 0, 143, 42, 27, 182, 1, 77, 154, 0, 9, 42, 4, 182, 1, 13, 172, 28]
abbrev dktX7_table_0 : List UInt8 := dkwX7_table_0 ++ dktX7_table_1
theorem dksX7_table_0 : cX7_table.data.toList.drop 0 = dktX7_table_0 := by decide +kernel
theorem dksX7_table_1 : cX7_table.data.toList.drop 20 = dktX7_table_1 := dk_seg dksX7_table_0 20 rfl rfl
theorem dksX7_table_2 : cX7_table.data.toList.drop 68 = dktX7_table_2 := dk_seg dksX7_table_1 48 rfl rfl
theorem dksX7_table_3 : cX7_table.data.toList.drop 91 = dktX7_table_3 := dk_seg dksX7_table_2 23 rfl rfl
theorem dksX7_table_4 : cX7_table.data.toList.drop 114 = dktX7_table_4 := dk_seg dksX7_table_3 23 rfl rfl
theorem dksX7_table_5 : cX7_table.data.toList.drop 138 = dktX7_table_5 := dk_seg dksX7_table_4 24 rfl rfl
theorem dX7_table_0 : decode cX7_table 0 = .ok (.aload_n 0, 1) := dk_42 (dk_at dksX7_table_0 0 rfl rfl)
theorem dX7_table_1 : decode cX7_table 1 = .ok (.iconst 0, 1) := dk_3 (dk_at dksX7_table_0 1 rfl rfl)
theorem dX7_table_2 : decode cX7_table 2 = .ok (.putfield 143, 3) := dk_181 0 143 (dk_at dksX7_table_0 2 rfl rfl)
theorem dX7_table_5 : decode cX7_table 5 = .ok (.aload_n 0, 1) := dk_42 (dk_at dksX7_table_0 5 rfl rfl)
theorem dX7_table_6 : decode cX7_table 6 = .ok (.iload_n 1, 1) := dk_27 (dk_at dksX7_table_0 6 rfl rfl)
theorem dX7_table_7 : decode cX7_table 7 = .ok (.invokevirtual 333, 3) := dk_182 1 77 (dk_at dksX7_table_0 7 rfl rfl)
theorem dX7_table_10 : decode cX7_table 10 = .ok (.ifCond .ne 9, 3) := dk_154 0 9 (dk_at dksX7_table_0 10 rfl rfl)
theorem dX7_table_13 : decode cX7_table 13 = .ok (.aload_n 0, 1) := dk_42 (dk_at dksX7_table_0 13 rfl rfl)
theorem dX7_table_14 : decode cX7_table 14 = .ok (.iconst 1, 1) := dk_4 (dk_at dksX7_table_0 14 rfl rfl)
theorem dX7_table_15 : decode cX7_table 15 = .ok (.invokevirtual 269, 3) := dk_182 1 13 (dk_at dksX7_table_0 15 rfl rfl)
theorem dX7_table_18 : decode cX7_table 18 = .ok (.ireturn, 1) := dk_172 (dk_at dksX7_table_0 18 rfl rfl)
theorem dX7_table_19 : decode cX7_table 19 = .ok (.iload_n 2, 1) := dk_28 (dk_at dksX7_table_0 19 rfl rfl)
theorem dX7_table_20 : decode cX7_table 20 = .ok (.tableswitch 113 0 7 #[48, 55, 62, 79, 86, 93, 100, 107], 48) := by decide +kernel
theorem dX7_table_68 : decode cX7_table 68 = .ok (.aload_n 0, 1) := dk_42 (dk_at dksX7_table_2 0 rfl rfl)
theorem dX7_table_69 : decode cX7_table 69 = .ok (.getfield 45, 3) := dk_180 0 45 (dk_at dksX7_table_2 1 rfl rfl)
theorem dX7_table_72 : decode cX7_table 72 = .ok (.iload_n 1, 1) := dk_27 (dk_at dksX7_table_2 4 rfl rfl)
theorem dX7_table_73 : decode cX7_table 73 = .ok (.iaload, 1) := dk_46 (dk_at dksX7_table_2 5 rfl rfl)
theorem dX7_table_74 : decode cX7_table 74 = .ok (.ireturn, 1) := dk_172 (dk_at dksX7_table_2 6 rfl rfl)
theorem dX7_table_75 : decode cX7_table 75 = .ok (.aload_n 0, 1) := dk_42 (dk_at dksX7_table_2 7 rfl rfl)
theorem dX7_table_76 : decode cX7_table 76 = .ok (.getfield 47, 3) := dk_180 0 47 (dk_at dksX7_table_2 8 rfl rfl)
theorem dX7_table_79 : decode cX7_table 79 = .ok (.iload_n 1, 1) := dk_27 (dk_at dksX7_table_2 11 rfl rfl)
theorem dX7_table_80 : decode cX7_table 80 = .ok (.iaload, 1) := dk_46 (dk_at dksX7_table_2 12 rfl rfl)
theorem dX7_table_81 : decode cX7_table 81 = .ok (.ireturn, 1) := dk_172 (dk_at dksX7_table_2 13 rfl rfl)
theorem dX7_table_82 : decode cX7_table 82 = .ok (.iconst 0, 1) := dk_3 (dk_at dksX7_table_2 14 rfl rfl)
theorem dX7_table_83 : decode cX7_table 83 = .ok (.aload_n 0, 1) := dk_42 (dk_at dksX7_table_2 15 rfl rfl)
theorem dX7_table_84 : decode cX7_table 84 = .ok (.getfield 49, 3) := dk_180 0 49 (dk_at dksX7_table_2 16 rfl rfl)
theorem dX7_table_87 : decode cX7_table 87 = .ok (.iload_n 1, 1) := dk_27 (dk_at dksX7_table_2 19 rfl rfl)
theorem dX7_table_88 : decode cX7_table 88 = .ok (.iaload, 1) := dk_46 (dk_at dksX7_table_2 20 rfl rfl)
theorem dX7_table_89 : decode cX7_table 89 = .ok (.aload_n 0, 1) := dk_42 (dk_at dksX7_table_2 21 rfl rfl)
theorem dX7_table_90 : decode cX7_table 90 = .ok (.iload_n 1, 1) := dk_27 (dk_at dksX7_table_2 22 rfl rfl)
theorem dX7_table_91 : decode cX7_table 91 = .ok (.invokevirtual 295, 3) := dk_182 1 39 (dk_at dksX7_table_3 0 rfl rfl)
theorem dX7_table_94 : decode cX7_table 94 = .ok (.isub, 1) := dk_100 (dk_at dksX7_table_3 3 rfl rfl)
theorem dX7_table_95 : decode cX7_table 95 = .ok (.invokestatic 298, 3) := dk_184 1 42 (dk_at dksX7_table_3 4 rfl rfl)
theorem dX7_table_98 : decode cX7_table 98 = .ok (.ireturn, 1) := dk_172 (dk_at dksX7_table_3 7 rfl rfl)
theorem dX7_table_99 : decode cX7_table 99 = .ok (.aload_n 0, 1) := dk_42 (dk_at dksX7_table_3 8 rfl rfl)
theorem dX7_table_100 : decode cX7_table 100 = .ok (.getfield 79, 3) := dk_180 0 79 (dk_at dksX7_table_3 9 rfl rfl)
theorem dX7_table_103 : decode cX7_table 103 = .ok (.iload_n 1, 1) := dk_27 (dk_at dksX7_table_3 12 rfl rfl)
theorem dX7_table_104 : decode cX7_table 104 = .ok (.iaload, 1) := dk_46 (dk_at dksX7_table_3 13 rfl rfl)
theorem dX7_table_105 : decode cX7_table 105 = .ok (.ireturn, 1) := dk_172 (dk_at dksX7_table_3 14 rfl rfl)
theorem dX7_table_106 : decode cX7_table 106 = .ok (.aload_n 0, 1) := dk_42 (dk_at dksX7_table_3 15 rfl rfl)
theorem dX7_table_107 : decode cX7_table 107 = .ok (.getfield 55, 3) := dk_180 0 55 (dk_at dksX7_table_3 16 rfl rfl)
theorem dX7_table_110 : decode cX7_table 110 = .ok (.iload_n 1, 1) := dk_27 (dk_at dksX7_table_3 19 rfl rfl)
theorem dX7_table_111 : decode cX7_table 111 = .ok (.iaload, 1) := dk_46 (dk_at dksX7_table_3 20 rfl rfl)
theorem dX7_table_112 : decode cX7_table 112 = .ok (.ireturn, 1) := dk_172 (dk_at dksX7_table_3 21 rfl rfl)
theorem dX7_table_113 : decode cX7_table 113 = .ok (.aload_n 0, 1) := dk_42 (dk_at dksX7_table_3 22 rfl rfl)
theorem dX7_table_114 : decode cX7_table 114 = .ok (.getfield 73, 3) := dk_180 0 73 (dk_at dksX7_table_4 0 rfl rfl)
theorem dX7_table_117 : decode cX7_table 117 = .ok (.iload_n 1, 1) := dk_27 (dk_at dksX7_table_4 3 rfl rfl)
theorem dX7_table_118 : decode cX7_table 118 = .ok (.iaload, 1) := dk_46 (dk_at dksX7_table_4 4 rfl rfl)
theorem dX7_table_119 : decode cX7_table 119 = .ok (.ireturn, 1) := dk_172 (dk_at dksX7_table_4 5 rfl rfl)
theorem dX7_table_120 : decode cX7_table 120 = .ok (.aload_n 0, 1) := dk_42 (dk_at dksX7_table_4 6 rfl rfl)
theorem dX7_table_121 : decode cX7_table 121 = .ok (.getfield 76, 3) := dk_180 0 76 (dk_at dksX7_table_4 7 rfl rfl)
theorem dX7_table_124 : decode cX7_table 124 = .ok (.iload_n 1, 1) := dk_27 (dk_at dksX7_table_4 10 rfl rfl)
theorem dX7_table_125 : decode cX7_table 125 = .ok (.iaload, 1) := dk_46 (dk_at dksX7_table_4 11 rfl rfl)
theorem dX7_table_126 : decode cX7_table 126 = .ok (.ireturn, 1) := dk_172 (dk_at dksX7_table_4 12 rfl rfl)
theorem dX7_table_127 : decode cX7_table 127 = .ok (.aload_n 0, 1) := dk_42 (dk_at dksX7_table_4 13 rfl rfl)
theorem dX7_table_128 : decode cX7_table 128 = .ok (.iload_n 1, 1) := dk_27 (dk_at dksX7_table_4 14 rfl rfl)
theorem dX7_table_129 : decode cX7_table 129 = .ok (.invokevirtual 336, 3) := dk_182 1 80 (dk_at dksX7_table_4 15 rfl rfl)
theorem dX7_table_132 : decode cX7_table 132 = .ok (.ireturn, 1) := dk_172 (dk_at dksX7_table_4 18 rfl rfl)
theorem dX7_table_133 : decode cX7_table 133 = .ok (.aload_n 0, 1) := dk_42 (dk_at dksX7_table_4 19 rfl rfl)
theorem dX7_table_134 : decode cX7_table 134 = .ok (.iconst 1, 1) := dk_4 (dk_at dksX7_table_4 20 rfl rfl)
theorem dX7_table_135 : decode cX7_table 135 = .ok (.invokevirtual 269, 3) := dk_182 1 13 (dk_at dksX7_table_4 21 rfl rfl)
theorem dX7_table_138 : decode cX7_table 138 = .ok (.ireturn, 1) := dk_172 (dk_at dksX7_table_5 0 rfl rfl)
