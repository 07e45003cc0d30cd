/-! java/util/AbstractCollection -/
set_option maxRecDepth 100000
def RJ0 : String := "java/util/AbstractCollection"
abbrev cJ0_init : ByteArray := prog_43_method_1_code
def yJ0_init : MethodName := ⟨RJ0, "<init>", "()V"⟩
theorem dJ0_init_0 : decode cJ0_init 0 = .ok (.aload_n 0, 1) := by decide +kernel
theorem dJ0_init_1 : decode cJ0_init 1 = .ok (.invokespecial 1, 3) := by decide +kernel
theorem dJ0_init_4 : decode cJ0_init 4 = .ok (.return_, 1) := by decide +kernel
theorem q109 : (Jvm.Cond.initialized "java/util/AbstractCollection") ∈ lw_all := lw_g (lw_at lw_m1 3 rfl) rfl
theorem q171 : (Jvm.Cond.instanceMethod ({ cls := "java/util/AbstractCollection", name := "<init>", desc := "()V" } : Jvm.MethodName)) ∈ lw_all := lw_g (lw_at lw_m1 65 rfl) rfl
theorem q172 : (Jvm.Cond.code ({ cls := "java/util/AbstractCollection", name := "<init>", desc := "()V" } : Jvm.MethodName) prog_43_method_1_code (1 : Nat) (Option.none : Option Jvm.ClassFile.FieldType)) ∈ lw_all := lw_g (lw_at lw_m1 66 rfl) rfl
theorem q173 : (Jvm.Cond.methodLink "java/util/AbstractCollection" (1 : Nat) ({ cls := "java/lang/Object", name := "<init>", desc := "()V" } : Jvm.MethodName)) ∈ lw_all := lw_g (lw_at lw_m1 67 rfl) rfl
/-! java/util/AbstractList -/
set_option maxRecDepth 100000
def RJ1 : String := "java/util/AbstractList"
abbrev cJ1_init : ByteArray := prog_44_method_1_code
def yJ1_init : MethodName := ⟨RJ1, "<init>", "()V"⟩
def dkwJ1_init_0 : List UInt8 := [42, 183, 0, 1, 42, 3, 181, 0, 7, 177]
abbrev dktJ1_init_0 : List UInt8 := dkwJ1_init_0 ++ []
theorem dksJ1_init_0 : cJ1_init.data.toList.drop 0 = dktJ1_init_0 := by decide +kernel
theorem dJ1_init_0 : decode cJ1_init 0 = .ok (.aload_n 0, 1) := dk_42 (dk_at dksJ1_init_0 0 rfl rfl)
theorem dJ1_init_1 : decode cJ1_init 1 = .ok (.invokespecial 1, 3) := dk_183 0 1 (dk_at dksJ1_init_0 1 rfl rfl)
theorem dJ1_init_4 : decode cJ1_init 4 = .ok (.aload_n 0, 1) := dk_42 (dk_at dksJ1_init_0 4 rfl rfl)
theorem dJ1_init_5 : decode cJ1_init 5 = .ok (.iconst 0, 1) := dk_3 (dk_at dksJ1_init_0 5 rfl rfl)
theorem dJ1_init_6 : decode cJ1_init 6 = .ok (.putfield 7, 3) := dk_181 0 7 (dk_at dksJ1_init_0 6 rfl rfl)
theorem dJ1_init_9 : decode cJ1_init 9 = .ok (.return_, 1) := dk_177 (dk_at dksJ1_init_0 9 rfl rfl)
theorem q110 : (Jvm.Cond.initialized "java/util/AbstractList") ∈ lw_all := lw_g (lw_at lw_m1 4 rfl) rfl
theorem q168 : (Jvm.Cond.instanceMethod ({ cls := "java/util/AbstractList", name := "<init>", desc := "()V" } : Jvm.MethodName)) ∈ lw_all := lw_g (lw_at lw_m1 62 rfl) rfl
theorem q169 : (Jvm.Cond.code ({ cls := "java/util/AbstractList", name := "<init>", desc := "()V" } : Jvm.MethodName) prog_44_method_1_code (1 : Nat) (Option.none : Option Jvm.ClassFile.FieldType)) ∈ lw_all := lw_g (lw_at lw_m1 63 rfl) rfl
theorem q170 : (Jvm.Cond.methodLink "java/util/AbstractList" (1 : Nat) ({ cls := "java/util/AbstractCollection", name := "<init>", desc := "()V" } : Jvm.MethodName)) ∈ lw_all := lw_g (lw_at lw_m1 64 rfl) rfl
theorem q492 : (Jvm.Cond.fieldLink "java/util/AbstractList" (7 : Nat) "java/util/AbstractList" "modCount" "I") ∈ lw_all := lw_g (lw_at lw_m2 146 rfl) rfl
theorem q500 : (Jvm.Cond.soleField "java/util/AbstractList" "modCount") ∈ lw_all := lw_g (lw_at lw_m2 154 rfl) rfl
/-! jdk/internal/util/ArraysSupport -/
set_option maxRecDepth 100000
def RJ11 : String := "jdk/internal/util/ArraysSupport"
abbrev cJ11_newLength : ByteArray := prog_53_method_27_code
def yJ11_newLength : MethodName := ⟨RJ11, "newLength", "(III)I"⟩
def dkwJ11_newLength_1 : List UInt8 := [184, 0, 201, 172]
abbrev dktJ11_newLength_1 : List UInt8 := dkwJ11_newLength_1 ++ []
def dkwJ11_newLength_0 : List UInt8 := [26, 27, 28, 184, 0, 194, 96, 62, 3, 29, 162, 0, 11, 29, 18, 200, 163, 0, 5, 29, 172, 26, 27]
abbrev dktJ11_newLength_0 : List UInt8 := dkwJ11_newLength_0 ++ dktJ11_newLength_1
theorem dksJ11_newLength_0 : cJ11_newLength.data.toList.drop 0 = dktJ11_newLength_0 := by decide +kernel
theorem dksJ11_newLength_1 : cJ11_newLength.data.toList.drop 23 = dktJ11_newLength_1 := dk_seg dksJ11_newLength_0 23 rfl rfl
theorem dJ11_newLength_0 : decode cJ11_newLength 0 = .ok (.iload_n 0, 1) := dk_26 (dk_at dksJ11_newLength_0 0 rfl rfl)
theorem dJ11_newLength_1 : decode cJ11_newLength 1 = .ok (.iload_n 1, 1) := dk_27 (dk_at dksJ11_newLength_0 1 rfl rfl)
theorem dJ11_newLength_2 : decode cJ11_newLength 2 = .ok (.iload_n 2, 1) := dk_28 (dk_at dksJ11_newLength_0 2 rfl rfl)
theorem dJ11_newLength_3 : decode cJ11_newLength 3 = .ok (.invokestatic 194, 3) := dk_184 0 194 (dk_at dksJ11_newLength_0 3 rfl rfl)
theorem dJ11_newLength_6 : decode cJ11_newLength 6 = .ok (.iadd, 1) := dk_96 (dk_at dksJ11_newLength_0 6 rfl rfl)
theorem dJ11_newLength_7 : decode cJ11_newLength 7 = .ok (.istore_n 3, 1) := dk_62 (dk_at dksJ11_newLength_0 7 rfl rfl)
theorem dJ11_newLength_8 : decode cJ11_newLength 8 = .ok (.iconst 0, 1) := dk_3 (dk_at dksJ11_newLength_0 8 rfl rfl)
theorem dJ11_newLength_9 : decode cJ11_newLength 9 = .ok (.iload_n 3, 1) := dk_29 (dk_at dksJ11_newLength_0 9 rfl rfl)
theorem dJ11_newLength_10 : decode cJ11_newLength 10 = .ok (.if_icmp .ge 11, 3) := dk_162 0 11 (dk_at dksJ11_newLength_0 10 rfl rfl)
theorem dJ11_newLength_13 : decode cJ11_newLength 13 = .ok (.iload_n 3, 1) := dk_29 (dk_at dksJ11_newLength_0 13 rfl rfl)
theorem dJ11_newLength_14 : decode cJ11_newLength 14 = .ok (.ldc 200, 2) := dk_18 200 (dk_at dksJ11_newLength_0 14 rfl rfl)
theorem dJ11_newLength_16 : decode cJ11_newLength 16 = .ok (.if_icmp .gt 5, 3) := dk_163 0 5 (dk_at dksJ11_newLength_0 16 rfl rfl)
theorem dJ11_newLength_19 : decode cJ11_newLength 19 = .ok (.iload_n 3, 1) := dk_29 (dk_at dksJ11_newLength_0 19 rfl rfl)
theorem dJ11_newLength_20 : decode cJ11_newLength 20 = .ok (.ireturn, 1) := dk_172 (dk_at dksJ11_newLength_0 20 rfl rfl)
theorem dJ11_newLength_21 : decode cJ11_newLength 21 = .ok (.iload_n 0, 1) := dk_26 (dk_at dksJ11_newLength_0 21 rfl rfl)
theorem dJ11_newLength_22 : decode cJ11_newLength 22 = .ok (.iload_n 1, 1) := dk_27 (dk_at dksJ11_newLength_0 22 rfl rfl)
theorem dJ11_newLength_23 : decode cJ11_newLength 23 = .ok (.invokestatic 201, 3) := dk_184 0 201 (dk_at dksJ11_newLength_1 0 rfl rfl)
theorem dJ11_newLength_26 : decode cJ11_newLength 26 = .ok (.ireturn, 1) := dk_172 (dk_at dksJ11_newLength_1 3 rfl rfl)
abbrev cJ11_hugeLength : ByteArray := prog_53_method_28_code
def yJ11_hugeLength : MethodName := ⟨RJ11, "hugeLength", "(II)I"⟩
def dkwJ11_hugeLength_2 : List UInt8 := [191, 28, 18, 200, 163, 0, 6, 18, 200, 172, 28, 172]
abbrev dktJ11_hugeLength_2 : List UInt8 := dkwJ11_hugeLength_2 ++ []
def dkwJ11_hugeLength_1 : List UInt8 := [26, 182, 0, 98, 18, 208, 182, 0, 94, 27, 182, 0, 98, 18, 210, 182, 0, 94, 182, 0, 101, 183, 0, 212]
abbrev dktJ11_hugeLength_1 : List UInt8 := dkwJ11_hugeLength_1 ++ dktJ11_hugeLength_2
def dkwJ11_hugeLength_0 : List UInt8 := [26, 27, 96, 61, 28, 156, 0, 44, 187, 0, 204, 89, 187, 0, 89, 89, 183, 0, 91, 18, 206, 182, 0, 94]
abbrev dktJ11_hugeLength_0 : List UInt8 := dkwJ11_hugeLength_0 ++ dktJ11_hugeLength_1
theorem dksJ11_hugeLength_0 : cJ11_hugeLength.data.toList.drop 0 = dktJ11_hugeLength_0 := by decide +kernel
theorem dksJ11_hugeLength_1 : cJ11_hugeLength.data.toList.drop 24 = dktJ11_hugeLength_1 := dk_seg dksJ11_hugeLength_0 24 rfl rfl
theorem dksJ11_hugeLength_2 : cJ11_hugeLength.data.toList.drop 48 = dktJ11_hugeLength_2 := dk_seg dksJ11_hugeLength_1 24 rfl rfl
theorem dJ11_hugeLength_0 : decode cJ11_hugeLength 0 = .ok (.iload_n 0, 1) := dk_26 (dk_at dksJ11_hugeLength_0 0 rfl rfl)
theorem dJ11_hugeLength_1 : decode cJ11_hugeLength 1 = .ok (.iload_n 1, 1) := dk_27 (dk_at dksJ11_hugeLength_0 1 rfl rfl)
theorem dJ11_hugeLength_2 : decode cJ11_hugeLength 2 = .ok (.iadd, 1) := dk_96 (dk_at dksJ11_hugeLength_0 2 rfl rfl)
theorem dJ11_hugeLength_3 : decode cJ11_hugeLength 3 = .ok (.istore_n 2, 1) := dk_61 (dk_at dksJ11_hugeLength_0 3 rfl rfl)
theorem dJ11_hugeLength_4 : decode cJ11_hugeLength 4 = .ok (.iload_n 2, 1) := dk_28 (dk_at dksJ11_hugeLength_0 4 rfl rfl)
theorem dJ11_hugeLength_5 : decode cJ11_hugeLength 5 = .ok (.ifCond .ge 44, 3) := dk_156 0 44 (dk_at dksJ11_hugeLength_0 5 rfl rfl)
theorem dJ11_hugeLength_8 : decode cJ11_hugeLength 8 = .ok (.new 204, 3) := dk_187 0 204 (dk_at dksJ11_hugeLength_0 8 rfl rfl)
theorem dJ11_hugeLength_11 : decode cJ11_hugeLength 11 = .ok (.dup, 1) := dk_89 (dk_at dksJ11_hugeLength_0 11 rfl rfl)
theorem dJ11_hugeLength_12 : decode cJ11_hugeLength 12 = .ok (.new 89, 3) := dk_187 0 89 (dk_at dksJ11_hugeLength_0 12 rfl rfl)
theorem dJ11_hugeLength_15 : decode cJ11_hugeLength 15 = .ok (.dup, 1) := dk_89 (dk_at dksJ11_hugeLength_0 15 rfl rfl)
theorem dJ11_hugeLength_16 : decode cJ11_hugeLength 16 = .ok (.invokespecial 91, 3) := dk_183 0 91 (dk_at dksJ11_hugeLength_0 16 rfl rfl)
theorem dJ11_hugeLength_19 : decode cJ11_hugeLength 19 = .ok (.ldc 206, 2) := dk_18 206 (dk_at dksJ11_hugeLength_0 19 rfl rfl)
theorem dJ11_hugeLength_21 : decode cJ11_hugeLength 21 = .ok (.invokevirtual 94, 3) := dk_182 0 94 (dk_at dksJ11_hugeLength_0 21 rfl rfl)
theorem dJ11_hugeLength_24 : decode cJ11_hugeLength 24 = .ok (.iload_n 0, 1) := dk_26 (dk_at dksJ11_hugeLength_1 0 rfl rfl)
theorem dJ11_hugeLength_25 : decode cJ11_hugeLength 25 = .ok (.invokevirtual 98, 3) := dk_182 0 98 (dk_at dksJ11_hugeLength_1 1 rfl rfl)
theorem dJ11_hugeLength_28 : decode cJ11_hugeLength 28 = .ok (.ldc 208, 2) := dk_18 208 (dk_at dksJ11_hugeLength_1 4 rfl rfl)
theorem dJ11_hugeLength_30 : decode cJ11_hugeLength 30 = .ok (.invokevirtual 94, 3) := dk_182 0 94 (dk_at dksJ11_hugeLength_1 6 rfl rfl)
theorem dJ11_hugeLength_33 : decode cJ11_hugeLength 33 = .ok (.iload_n 1, 1) := dk_27 (dk_at dksJ11_hugeLength_1 9 rfl rfl)
theorem dJ11_hugeLength_34 : decode cJ11_hugeLength 34 = .ok (.invokevirtual 98, 3) := dk_182 0 98 (dk_at dksJ11_hugeLength_1 10 rfl rfl)
theorem dJ11_hugeLength_37 : decode cJ11_hugeLength 37 = .ok (.ldc 210, 2) := dk_18 210 (dk_at dksJ11_hugeLength_1 13 rfl rfl)
theorem dJ11_hugeLength_39 : decode cJ11_hugeLength 39 = .ok (.invokevirtual 94, 3) := dk_182 0 94 (dk_at dksJ11_hugeLength_1 15 rfl rfl)
theorem dJ11_hugeLength_42 : decode cJ11_hugeLength 42 = .ok (.invokevirtual 101, 3) := dk_182 0 101 (dk_at dksJ11_hugeLength_1 18 rfl rfl)
theorem dJ11_hugeLength_45 : decode cJ11_hugeLength 45 = .ok (.invokespecial 212, 3) := dk_183 0 212 (dk_at dksJ11_hugeLength_1 21 rfl rfl)
theorem dJ11_hugeLength_48 : decode cJ11_hugeLength 48 = .ok (.athrow, 1) := dk_191 (dk_at dksJ11_hugeLength_2 0 rfl rfl)
theorem dJ11_hugeLength_49 : decode cJ11_hugeLength 49 = .ok (.iload_n 2, 1) := dk_28 (dk_at dksJ11_hugeLength_2 1 rfl rfl)
theorem dJ11_hugeLength_50 : decode cJ11_hugeLength 50 = .ok (.ldc 200, 2) := dk_18 200 (dk_at dksJ11_hugeLength_2 2 rfl rfl)
theorem dJ11_hugeLength_52 : decode cJ11_hugeLength 52 = .ok (.if_icmp .gt 6, 3) := dk_163 0 6 (dk_at dksJ11_hugeLength_2 4 rfl rfl)
theorem dJ11_hugeLength_55 : decode cJ11_hugeLength 55 = .ok (.ldc 200, 2) := dk_18 200 (dk_at dksJ11_hugeLength_2 7 rfl rfl)
theorem dJ11_hugeLength_57 : decode cJ11_hugeLength 57 = .ok (.ireturn, 1) := dk_172 (dk_at dksJ11_hugeLength_2 9 rfl rfl)
theorem dJ11_hugeLength_58 : decode cJ11_hugeLength 58 = .ok (.iload_n 2, 1) := dk_28 (dk_at dksJ11_hugeLength_2 10 rfl rfl)
theorem dJ11_hugeLength_59 : decode cJ11_hugeLength 59 = .ok (.ireturn, 1) := dk_172 (dk_at dksJ11_hugeLength_2 11 rfl rfl)
theorem q120 : (Jvm.Cond.initialized "jdk/internal/util/ArraysSupport") ∈ lw_all := lw_g (lw_at lw_m1 14 rfl) rfl
theorem q272 : (Jvm.Cond.static ({ cls := "jdk/internal/util/ArraysSupport", name := "newLength", desc := "(III)I" } : Jvm.MethodName)) ∈ lw_all := lw_g (lw_at lw_m1 166 rfl) rfl
theorem q273 : (Jvm.Cond.code ({ cls := "jdk/internal/util/ArraysSupport", name := "newLength", desc := "(III)I" } : Jvm.MethodName) prog_53_method_27_code (4 : Nat) (Option.some Jvm.ClassFile.FieldType.int)) ∈ lw_all := lw_g (lw_at lw_m1 167 rfl) rfl
theorem q274 : (Jvm.Cond.methodLink "jdk/internal/util/ArraysSupport" (194 : Nat) ({ cls := "java/lang/Math", name := "max", desc := "(II)I" } : Jvm.MethodName)) ∈ lw_all := lw_g (lw_at lw_m1 168 rfl) rfl
theorem q277 : (Jvm.Cond.constant "jdk/internal/util/ArraysSupport" (200 : Nat) (2147483639 : Int32)) ∈ lw_all := lw_g (lw_at lw_m1 171 rfl) rfl
theorem q278 : (Jvm.Cond.methodLink "jdk/internal/util/ArraysSupport" (201 : Nat) ({ cls := "jdk/internal/util/ArraysSupport", name := "hugeLength", desc := "(II)I" } : Jvm.MethodName)) ∈ lw_all := lw_g (lw_at lw_m1 172 rfl) rfl
theorem q279 : (Jvm.Cond.static ({ cls := "jdk/internal/util/ArraysSupport", name := "hugeLength", desc := "(II)I" } : Jvm.MethodName)) ∈ lw_all := lw_g (lw_at lw_m1 173 rfl) rfl
theorem q280 : (Jvm.Cond.code ({ cls := "jdk/internal/util/ArraysSupport", name := "hugeLength", desc := "(II)I" } : Jvm.MethodName) prog_53_method_28_code (3 : Nat) (Option.some Jvm.ClassFile.FieldType.int)) ∈ lw_all := lw_g (lw_at lw_m1 174 rfl) rfl
/-! java/lang/Math -/
set_option maxRecDepth 100000
def RJ12 : String := "java/lang/Math"
abbrev cJ12_max : ByteArray := prog_32_method_65_code
def yJ12_max : MethodName := ⟨RJ12, "max", "(II)I"⟩
def dkwJ12_max_0 : List UInt8 := [26, 27, 161, 0, 7, 26, 167, 0, 4, 27, 172]
abbrev dktJ12_max_0 : List UInt8 := dkwJ12_max_0 ++ []
theorem dksJ12_max_0 : cJ12_max.data.toList.drop 0 = dktJ12_max_0 := by decide +kernel
theorem dJ12_max_0 : decode cJ12_max 0 = .ok (.iload_n 0, 1) := dk_26 (dk_at dksJ12_max_0 0 rfl rfl)
theorem dJ12_max_1 : decode cJ12_max 1 = .ok (.iload_n 1, 1) := dk_27 (dk_at dksJ12_max_0 1 rfl rfl)
theorem dJ12_max_2 : decode cJ12_max 2 = .ok (.if_icmp .lt 7, 3) := dk_161 0 7 (dk_at dksJ12_max_0 2 rfl rfl)
theorem dJ12_max_5 : decode cJ12_max 5 = .ok (.iload_n 0, 1) := dk_26 (dk_at dksJ12_max_0 5 rfl rfl)
theorem dJ12_max_6 : decode cJ12_max 6 = .ok (.goto 4, 3) := dk_167 0 4 (dk_at dksJ12_max_0 6 rfl rfl)
theorem dJ12_max_9 : decode cJ12_max 9 = .ok (.iload_n 1, 1) := dk_27 (dk_at dksJ12_max_0 9 rfl rfl)
theorem dJ12_max_10 : decode cJ12_max 10 = .ok (.ireturn, 1) := dk_172 (dk_at dksJ12_max_0 10 rfl rfl)
abbrev cJ12_min : ByteArray := prog_32_method_69_code
def yJ12_min : MethodName := ⟨RJ12, "min", "(II)I"⟩
def dkwJ12_min_0 : List UInt8 := [26, 27, 163, 0, 7, 26, 167, 0, 4, 27, 172]
abbrev dktJ12_min_0 : List UInt8 := dkwJ12_min_0 ++ []
theorem dksJ12_min_0 : cJ12_min.data.toList.drop 0 = dktJ12_min_0 := by decide +kernel
theorem dJ12_min_0 : decode cJ12_min 0 = .ok (.iload_n 0, 1) := dk_26 (dk_at dksJ12_min_0 0 rfl rfl)
theorem dJ12_min_1 : decode cJ12_min 1 = .ok (.iload_n 1, 1) := dk_27 (dk_at dksJ12_min_0 1 rfl rfl)
theorem dJ12_min_2 : decode cJ12_min 2 = .ok (.if_icmp .gt 7, 3) := dk_163 0 7 (dk_at dksJ12_min_0 2 rfl rfl)
theorem dJ12_min_5 : decode cJ12_min 5 = .ok (.iload_n 0, 1) := dk_26 (dk_at dksJ12_min_0 5 rfl rfl)
theorem dJ12_min_6 : decode cJ12_min 6 = .ok (.goto 4, 3) := dk_167 0 4 (dk_at dksJ12_min_0 6 rfl rfl)
theorem dJ12_min_9 : decode cJ12_min 9 = .ok (.iload_n 1, 1) := dk_27 (dk_at dksJ12_min_0 9 rfl rfl)
theorem dJ12_min_10 : decode cJ12_min 10 = .ok (.ireturn, 1) := dk_172 (dk_at dksJ12_min_0 10 rfl rfl)
abbrev cJ12_abs : ByteArray := prog_32_method_59_code
def yJ12_abs : MethodName := ⟨RJ12, "abs", "(I)I"⟩
def dkwJ12_abs_0 : List UInt8 := [26, 156, 0, 8, 26, 116, 167, 0, 4, 26, 172]
abbrev dktJ12_abs_0 : List UInt8 := dkwJ12_abs_0 ++ []
theorem dksJ12_abs_0 : cJ12_abs.data.toList.drop 0 = dktJ12_abs_0 := by decide +kernel
theorem dJ12_abs_0 : decode cJ12_abs 0 = .ok (.iload_n 0, 1) := dk_26 (dk_at dksJ12_abs_0 0 rfl rfl)
theorem dJ12_abs_1 : decode cJ12_abs 1 = .ok (.ifCond .ge 8, 3) := dk_156 0 8 (dk_at dksJ12_abs_0 1 rfl rfl)
theorem dJ12_abs_4 : decode cJ12_abs 4 = .ok (.iload_n 0, 1) := dk_26 (dk_at dksJ12_abs_0 4 rfl rfl)
theorem dJ12_abs_5 : decode cJ12_abs 5 = .ok (.ineg, 1) := dk_116 (dk_at dksJ12_abs_0 5 rfl rfl)
theorem dJ12_abs_6 : decode cJ12_abs 6 = .ok (.goto 4, 3) := dk_167 0 4 (dk_at dksJ12_abs_0 6 rfl rfl)
theorem dJ12_abs_9 : decode cJ12_abs 9 = .ok (.iload_n 0, 1) := dk_26 (dk_at dksJ12_abs_0 9 rfl rfl)
theorem dJ12_abs_10 : decode cJ12_abs 10 = .ok (.ireturn, 1) := dk_172 (dk_at dksJ12_abs_0 10 rfl rfl)
theorem q121 : (Jvm.Cond.initialized "java/lang/Math") ∈ lw_all := lw_g (lw_at lw_m1 15 rfl) rfl
theorem q275 : (Jvm.Cond.static ({ cls := "java/lang/Math", name := "max", desc := "(II)I" } : Jvm.MethodName)) ∈ lw_all := lw_g (lw_at lw_m1 169 rfl) rfl
theorem q276 : (Jvm.Cond.code ({ cls := "java/lang/Math", name := "max", desc := "(II)I" } : Jvm.MethodName) prog_32_method_65_code (2 : Nat) (Option.some Jvm.ClassFile.FieldType.int)) ∈ lw_all := lw_g (lw_at lw_m1 170 rfl) rfl
theorem q293 : (Jvm.Cond.static ({ cls := "java/lang/Math", name := "min", desc := "(II)I" } : Jvm.MethodName)) ∈ lw_all := lw_g (lw_at lw_m1 187 rfl) rfl
theorem q294 : (Jvm.Cond.code ({ cls := "java/lang/Math", name := "min", desc := "(II)I" } : Jvm.MethodName) prog_32_method_69_code (2 : Nat) (Option.some Jvm.ClassFile.FieldType.int)) ∈ lw_all := lw_g (lw_at lw_m1 188 rfl) rfl
theorem q977 : (Jvm.Cond.static ({ cls := "java/lang/Math", name := "abs", desc := "(I)I" } : Jvm.MethodName)) ∈ lw_all := lw_g (lw_at lw_m4 151 rfl) rfl
theorem q978 : (Jvm.Cond.code ({ cls := "java/lang/Math", name := "abs", desc := "(I)I" } : Jvm.MethodName) prog_32_method_59_code (1 : Nat) (Option.some Jvm.ClassFile.FieldType.int)) ∈ lw_all := lw_g (lw_at lw_m4 152 rfl) rfl
/-! java/util/Arrays -/
set_option maxRecDepth 100000
def RJ13 : String := "java/util/Arrays"
abbrev cJ13_copyOf : ByteArray := prog_46_method_121_code
def yJ13_copyOf : MethodName := ⟨RJ13, "copyOf", "([BI)[B"⟩
def dkwJ13_copyOf_1 : List UInt8 := [27, 184, 1, 48, 184, 0, 150, 44, 176]
abbrev dktJ13_copyOf_1 : List UInt8 := dkwJ13_copyOf_1 ++ []
def dkwJ13_copyOf_0 : List UInt8 := [27, 42, 190, 160, 0, 11, 42, 182, 1, 54, 192, 1, 55, 176, 27, 188, 8, 77, 42, 3, 44, 3, 42, 190]
abbrev dktJ13_copyOf_0 : List UInt8 := dkwJ13_copyOf_0 ++ dktJ13_copyOf_1
theorem dksJ13_copyOf_0 : cJ13_copyOf.data.toList.drop 0 = dktJ13_copyOf_0 := by decide +kernel
theorem dksJ13_copyOf_1 : cJ13_copyOf.data.toList.drop 24 = dktJ13_copyOf_1 := dk_seg dksJ13_copyOf_0 24 rfl rfl
theorem dJ13_copyOf_0 : decode cJ13_copyOf 0 = .ok (.iload_n 1, 1) := dk_27 (dk_at dksJ13_copyOf_0 0 rfl rfl)
theorem dJ13_copyOf_1 : decode cJ13_copyOf 1 = .ok (.aload_n 0, 1) := dk_42 (dk_at dksJ13_copyOf_0 1 rfl rfl)
theorem dJ13_copyOf_2 : decode cJ13_copyOf 2 = .ok (.arraylength, 1) := dk_190 (dk_at dksJ13_copyOf_0 2 rfl rfl)
theorem dJ13_copyOf_3 : decode cJ13_copyOf 3 = .ok (.if_icmp .ne 11, 3) := dk_160 0 11 (dk_at dksJ13_copyOf_0 3 rfl rfl)
theorem dJ13_copyOf_6 : decode cJ13_copyOf 6 = .ok (.aload_n 0, 1) := dk_42 (dk_at dksJ13_copyOf_0 6 rfl rfl)
theorem dJ13_copyOf_7 : decode cJ13_copyOf 7 = .ok (.invokevirtual 310, 3) := dk_182 1 54 (dk_at dksJ13_copyOf_0 7 rfl rfl)
theorem dJ13_copyOf_10 : decode cJ13_copyOf 10 = .ok (.checkcast 311, 3) := dk_192 1 55 (dk_at dksJ13_copyOf_0 10 rfl rfl)
theorem dJ13_copyOf_13 : decode cJ13_copyOf 13 = .ok (.areturn, 1) := dk_176 (dk_at dksJ13_copyOf_0 13 rfl rfl)
theorem dJ13_copyOf_14 : decode cJ13_copyOf 14 = .ok (.iload_n 1, 1) := dk_27 (dk_at dksJ13_copyOf_0 14 rfl rfl)
theorem dJ13_copyOf_15 : decode cJ13_copyOf 15 = .ok (.newarray .byte, 2) := dk_188_8 (dk_at dksJ13_copyOf_0 15 rfl rfl)
theorem dJ13_copyOf_17 : decode cJ13_copyOf 17 = .ok (.astore_n 2, 1) := dk_77 (dk_at dksJ13_copyOf_0 17 rfl rfl)
theorem dJ13_copyOf_18 : decode cJ13_copyOf 18 = .ok (.aload_n 0, 1) := dk_42 (dk_at dksJ13_copyOf_0 18 rfl rfl)
theorem dJ13_copyOf_19 : decode cJ13_copyOf 19 = .ok (.iconst 0, 1) := dk_3 (dk_at dksJ13_copyOf_0 19 rfl rfl)
theorem dJ13_copyOf_20 : decode cJ13_copyOf 20 = .ok (.aload_n 2, 1) := dk_44 (dk_at dksJ13_copyOf_0 20 rfl rfl)
theorem dJ13_copyOf_21 : decode cJ13_copyOf 21 = .ok (.iconst 0, 1) := dk_3 (dk_at dksJ13_copyOf_0 21 rfl rfl)
theorem dJ13_copyOf_22 : decode cJ13_copyOf 22 = .ok (.aload_n 0, 1) := dk_42 (dk_at dksJ13_copyOf_0 22 rfl rfl)
theorem dJ13_copyOf_23 : decode cJ13_copyOf 23 = .ok (.arraylength, 1) := dk_190 (dk_at dksJ13_copyOf_0 23 rfl rfl)
theorem dJ13_copyOf_24 : decode cJ13_copyOf 24 = .ok (.iload_n 1, 1) := dk_27 (dk_at dksJ13_copyOf_1 0 rfl rfl)
theorem dJ13_copyOf_25 : decode cJ13_copyOf 25 = .ok (.invokestatic 304, 3) := dk_184 1 48 (dk_at dksJ13_copyOf_1 1 rfl rfl)
theorem dJ13_copyOf_28 : decode cJ13_copyOf 28 = .ok (.invokestatic 150, 3) := dk_184 0 150 (dk_at dksJ13_copyOf_1 4 rfl rfl)
theorem dJ13_copyOf_31 : decode cJ13_copyOf 31 = .ok (.aload_n 2, 1) := dk_44 (dk_at dksJ13_copyOf_1 7 rfl rfl)
theorem dJ13_copyOf_32 : decode cJ13_copyOf 32 = .ok (.areturn, 1) := dk_176 (dk_at dksJ13_copyOf_1 8 rfl rfl)
abbrev cJ13_copyOfRange : ByteArray := prog_46_method_132_code
def yJ13_copyOfRange : MethodName := ⟨RJ13, "copyOfRange", "([BII)[B"⟩
def dkwJ13_copyOfRange_1 : List UInt8 := [176]
abbrev dktJ13_copyOfRange_1 : List UInt8 := dkwJ13_copyOfRange_1 ++ []
def dkwJ13_copyOfRange_0 : List UInt8 := [27, 154, 0, 9, 28, 42, 190, 159, 0, 10, 42, 27, 28, 184, 1, 83, 176, 42, 182, 1, 54, 192, 1, 55]
abbrev dktJ13_copyOfRange_0 : List UInt8 := dkwJ13_copyOfRange_0 ++ dktJ13_copyOfRange_1
theorem dksJ13_copyOfRange_0 : cJ13_copyOfRange.data.toList.drop 0 = dktJ13_copyOfRange_0 := by decide +kernel
theorem dksJ13_copyOfRange_1 : cJ13_copyOfRange.data.toList.drop 24 = dktJ13_copyOfRange_1 := dk_seg dksJ13_copyOfRange_0 24 rfl rfl
theorem dJ13_copyOfRange_0 : decode cJ13_copyOfRange 0 = .ok (.iload_n 1, 1) := dk_27 (dk_at dksJ13_copyOfRange_0 0 rfl rfl)
theorem dJ13_copyOfRange_1 : decode cJ13_copyOfRange 1 = .ok (.ifCond .ne 9, 3) := dk_154 0 9 (dk_at dksJ13_copyOfRange_0 1 rfl rfl)
theorem dJ13_copyOfRange_4 : decode cJ13_copyOfRange 4 = .ok (.iload_n 2, 1) := dk_28 (dk_at dksJ13_copyOfRange_0 4 rfl rfl)
theorem dJ13_copyOfRange_5 : decode cJ13_copyOfRange 5 = .ok (.aload_n 0, 1) := dk_42 (dk_at dksJ13_copyOfRange_0 5 rfl rfl)
theorem dJ13_copyOfRange_6 : decode cJ13_copyOfRange 6 = .ok (.arraylength, 1) := dk_190 (dk_at dksJ13_copyOfRange_0 6 rfl rfl)
theorem dJ13_copyOfRange_7 : decode cJ13_copyOfRange 7 = .ok (.if_icmp .eq 10, 3) := dk_159 0 10 (dk_at dksJ13_copyOfRange_0 7 rfl rfl)
theorem dJ13_copyOfRange_10 : decode cJ13_copyOfRange 10 = .ok (.aload_n 0, 1) := dk_42 (dk_at dksJ13_copyOfRange_0 10 rfl rfl)
theorem dJ13_copyOfRange_11 : decode cJ13_copyOfRange 11 = .ok (.iload_n 1, 1) := dk_27 (dk_at dksJ13_copyOfRange_0 11 rfl rfl)
theorem dJ13_copyOfRange_12 : decode cJ13_copyOfRange 12 = .ok (.iload_n 2, 1) := dk_28 (dk_at dksJ13_copyOfRange_0 12 rfl rfl)
theorem dJ13_copyOfRange_13 : decode cJ13_copyOfRange 13 = .ok (.invokestatic 339, 3) := dk_184 1 83 (dk_at dksJ13_copyOfRange_0 13 rfl rfl)
theorem dJ13_copyOfRange_16 : decode cJ13_copyOfRange 16 = .ok (.areturn, 1) := dk_176 (dk_at dksJ13_copyOfRange_0 16 rfl rfl)
theorem dJ13_copyOfRange_17 : decode cJ13_copyOfRange 17 = .ok (.aload_n 0, 1) := dk_42 (dk_at dksJ13_copyOfRange_0 17 rfl rfl)
theorem dJ13_copyOfRange_18 : decode cJ13_copyOfRange 18 = .ok (.invokevirtual 310, 3) := dk_182 1 54 (dk_at dksJ13_copyOfRange_0 18 rfl rfl)
theorem dJ13_copyOfRange_21 : decode cJ13_copyOfRange 21 = .ok (.checkcast 311, 3) := dk_192 1 55 (dk_at dksJ13_copyOfRange_0 21 rfl rfl)
theorem dJ13_copyOfRange_24 : decode cJ13_copyOfRange 24 = .ok (.areturn, 1) := dk_176 (dk_at dksJ13_copyOfRange_1 0 rfl rfl)
abbrev cJ13_copyOfRangeByte : ByteArray := prog_46_method_133_code
def yJ13_copyOfRangeByte : MethodName := ⟨RJ13, "copyOfRangeByte", "([BII)[B"⟩
def dkwJ13_copyOfRangeByte_1 : List UInt8 := [184, 1, 48, 184, 0, 150, 25, 4, 176]
abbrev dktJ13_copyOfRangeByte_1 : List UInt8 := dkwJ13_copyOfRangeByte_1 ++ []
def dkwJ13_copyOfRangeByte_0 : List UInt8 := [27, 28, 184, 1, 87, 28, 27, 100, 62, 29, 188, 8, 58, 4, 42, 27, 25, 4, 3, 42, 190, 27, 100, 29]
abbrev dktJ13_copyOfRangeByte_0 : List UInt8 := dkwJ13_copyOfRangeByte_0 ++ dktJ13_copyOfRangeByte_1
theorem dksJ13_copyOfRangeByte_0 : cJ13_copyOfRangeByte.data.toList.drop 0 = dktJ13_copyOfRangeByte_0 := by decide +kernel
theorem dksJ13_copyOfRangeByte_1 : cJ13_copyOfRangeByte.data.toList.drop 24 = dktJ13_copyOfRangeByte_1 := dk_seg dksJ13_copyOfRangeByte_0 24 rfl rfl
theorem dJ13_copyOfRangeByte_0 : decode cJ13_copyOfRangeByte 0 = .ok (.iload_n 1, 1) := dk_27 (dk_at dksJ13_copyOfRangeByte_0 0 rfl rfl)
theorem dJ13_copyOfRangeByte_1 : decode cJ13_copyOfRangeByte 1 = .ok (.iload_n 2, 1) := dk_28 (dk_at dksJ13_copyOfRangeByte_0 1 rfl rfl)
theorem dJ13_copyOfRangeByte_2 : decode cJ13_copyOfRangeByte 2 = .ok (.invokestatic 343, 3) := dk_184 1 87 (dk_at dksJ13_copyOfRangeByte_0 2 rfl rfl)
theorem dJ13_copyOfRangeByte_5 : decode cJ13_copyOfRangeByte 5 = .ok (.iload_n 2, 1) := dk_28 (dk_at dksJ13_copyOfRangeByte_0 5 rfl rfl)
theorem dJ13_copyOfRangeByte_6 : decode cJ13_copyOfRangeByte 6 = .ok (.iload_n 1, 1) := dk_27 (dk_at dksJ13_copyOfRangeByte_0 6 rfl rfl)
theorem dJ13_copyOfRangeByte_7 : decode cJ13_copyOfRangeByte 7 = .ok (.isub, 1) := dk_100 (dk_at dksJ13_copyOfRangeByte_0 7 rfl rfl)
theorem dJ13_copyOfRangeByte_8 : decode cJ13_copyOfRangeByte 8 = .ok (.istore_n 3, 1) := dk_62 (dk_at dksJ13_copyOfRangeByte_0 8 rfl rfl)
theorem dJ13_copyOfRangeByte_9 : decode cJ13_copyOfRangeByte 9 = .ok (.iload_n 3, 1) := dk_29 (dk_at dksJ13_copyOfRangeByte_0 9 rfl rfl)
theorem dJ13_copyOfRangeByte_10 : decode cJ13_copyOfRangeByte 10 = .ok (.newarray .byte, 2) := dk_188_8 (dk_at dksJ13_copyOfRangeByte_0 10 rfl rfl)
theorem dJ13_copyOfRangeByte_12 : decode cJ13_copyOfRangeByte 12 = .ok (.astore 4, 2) := dk_58 4 (dk_at dksJ13_copyOfRangeByte_0 12 rfl rfl)
theorem dJ13_copyOfRangeByte_14 : decode cJ13_copyOfRangeByte 14 = .ok (.aload_n 0, 1) := dk_42 (dk_at dksJ13_copyOfRangeByte_0 14 rfl rfl)
theorem dJ13_copyOfRangeByte_15 : decode cJ13_copyOfRangeByte 15 = .ok (.iload_n 1, 1) := dk_27 (dk_at dksJ13_copyOfRangeByte_0 15 rfl rfl)
theorem dJ13_copyOfRangeByte_16 : decode cJ13_copyOfRangeByte 16 = .ok (.aload 4, 2) := dk_25 4 (dk_at dksJ13_copyOfRangeByte_0 16 rfl rfl)
theorem dJ13_copyOfRangeByte_18 : decode cJ13_copyOfRangeByte 18 = .ok (.iconst 0, 1) := dk_3 (dk_at dksJ13_copyOfRangeByte_0 18 rfl rfl)
theorem dJ13_copyOfRangeByte_19 : decode cJ13_copyOfRangeByte 19 = .ok (.aload_n 0, 1) := dk_42 (dk_at dksJ13_copyOfRangeByte_0 19 rfl rfl)
theorem dJ13_copyOfRangeByte_20 : decode cJ13_copyOfRangeByte 20 = .ok (.arraylength, 1) := dk_190 (dk_at dksJ13_copyOfRangeByte_0 20 rfl rfl)
theorem dJ13_copyOfRangeByte_21 : decode cJ13_copyOfRangeByte 21 = .ok (.iload_n 1, 1) := dk_27 (dk_at dksJ13_copyOfRangeByte_0 21 rfl rfl)
theorem dJ13_copyOfRangeByte_22 : decode cJ13_copyOfRangeByte 22 = .ok (.isub, 1) := dk_100 (dk_at dksJ13_copyOfRangeByte_0 22 rfl rfl)
theorem dJ13_copyOfRangeByte_23 : decode cJ13_copyOfRangeByte 23 = .ok (.iload_n 3, 1) := dk_29 (dk_at dksJ13_copyOfRangeByte_0 23 rfl rfl)
theorem dJ13_copyOfRangeByte_24 : decode cJ13_copyOfRangeByte 24 = .ok (.invokestatic 304, 3) := dk_184 1 48 (dk_at dksJ13_copyOfRangeByte_1 0 rfl rfl)
theorem dJ13_copyOfRangeByte_27 : decode cJ13_copyOfRangeByte 27 = .ok (.invokestatic 150, 3) := dk_184 0 150 (dk_at dksJ13_copyOfRangeByte_1 3 rfl rfl)
theorem dJ13_copyOfRangeByte_30 : decode cJ13_copyOfRangeByte 30 = .ok (.aload 4, 2) := dk_25 4 (dk_at dksJ13_copyOfRangeByte_1 6 rfl rfl)
theorem dJ13_copyOfRangeByte_32 : decode cJ13_copyOfRangeByte 32 = .ok (.areturn, 1) := dk_176 (dk_at dksJ13_copyOfRangeByte_1 8 rfl rfl)
abbrev cJ13_checkLength : ByteArray := prog_46_method_131_code
def yJ13_checkLength : MethodName := ⟨RJ13, "checkLength", "(II)V"⟩
def dkwJ13_checkLength_1 : List UInt8 := [182, 0, 50, 27, 182, 0, 54, 182, 0, 61, 183, 0, 65, 191, 177]
abbrev dktJ13_checkLength_1 : List UInt8 := dkwJ13_checkLength_1 ++ []
def dkwJ13_checkLength_0 : List UInt8 := [27, 26, 162, 0, 35, 187, 0, 43, 89, 187, 0, 45, 89, 183, 0, 47, 26, 182, 0, 54, 19, 1, 81]
abbrev dktJ13_checkLength_0 : List UInt8 := dkwJ13_checkLength_0 ++ dktJ13_checkLength_1
theorem dksJ13_checkLength_0 : cJ13_checkLength.data.toList.drop 0 = dktJ13_checkLength_0 := by decide +kernel
theorem dksJ13_checkLength_1 : cJ13_checkLength.data.toList.drop 23 = dktJ13_checkLength_1 := dk_seg dksJ13_checkLength_0 23 rfl rfl
theorem dJ13_checkLength_0 : decode cJ13_checkLength 0 = .ok (.iload_n 1, 1) := dk_27 (dk_at dksJ13_checkLength_0 0 rfl rfl)
theorem dJ13_checkLength_1 : decode cJ13_checkLength 1 = .ok (.iload_n 0, 1) := dk_26 (dk_at dksJ13_checkLength_0 1 rfl rfl)
theorem dJ13_checkLength_2 : decode cJ13_checkLength 2 = .ok (.if_icmp .ge 35, 3) := dk_162 0 35 (dk_at dksJ13_checkLength_0 2 rfl rfl)
theorem dJ13_checkLength_5 : decode cJ13_checkLength 5 = .ok (.new 43, 3) := dk_187 0 43 (dk_at dksJ13_checkLength_0 5 rfl rfl)
theorem dJ13_checkLength_8 : decode cJ13_checkLength 8 = .ok (.dup, 1) := dk_89 (dk_at dksJ13_checkLength_0 8 rfl rfl)
theorem dJ13_checkLength_9 : decode cJ13_checkLength 9 = .ok (.new 45, 3) := dk_187 0 45 (dk_at dksJ13_checkLength_0 9 rfl rfl)
theorem dJ13_checkLength_12 : decode cJ13_checkLength 12 = .ok (.dup, 1) := dk_89 (dk_at dksJ13_checkLength_0 12 rfl rfl)
theorem dJ13_checkLength_13 : decode cJ13_checkLength 13 = .ok (.invokespecial 47, 3) := dk_183 0 47 (dk_at dksJ13_checkLength_0 13 rfl rfl)
theorem dJ13_checkLength_16 : decode cJ13_checkLength 16 = .ok (.iload_n 0, 1) := dk_26 (dk_at dksJ13_checkLength_0 16 rfl rfl)
theorem dJ13_checkLength_17 : decode cJ13_checkLength 17 = .ok (.invokevirtual 54, 3) := dk_182 0 54 (dk_at dksJ13_checkLength_0 17 rfl rfl)
theorem dJ13_checkLength_20 : decode cJ13_checkLength 20 = .ok (.ldc_w 337, 3) := dk_19 1 81 (dk_at dksJ13_checkLength_0 20 rfl rfl)
theorem dJ13_checkLength_23 : decode cJ13_checkLength 23 = .ok (.invokevirtual 50, 3) := dk_182 0 50 (dk_at dksJ13_checkLength_1 0 rfl rfl)
theorem dJ13_checkLength_26 : decode cJ13_checkLength 26 = .ok (.iload_n 1, 1) := dk_27 (dk_at dksJ13_checkLength_1 3 rfl rfl)
theorem dJ13_checkLength_27 : decode cJ13_checkLength 27 = .ok (.invokevirtual 54, 3) := dk_182 0 54 (dk_at dksJ13_checkLength_1 4 rfl rfl)
theorem dJ13_checkLength_30 : decode cJ13_checkLength 30 = .ok (.invokevirtual 61, 3) := dk_182 0 61 (dk_at dksJ13_checkLength_1 7 rfl rfl)
theorem dJ13_checkLength_33 : decode cJ13_checkLength 33 = .ok (.invokespecial 65, 3) := dk_183 0 65 (dk_at dksJ13_checkLength_1 10 rfl rfl)
theorem dJ13_checkLength_36 : decode cJ13_checkLength 36 = .ok (.athrow, 1) := dk_191 (dk_at dksJ13_checkLength_1 13 rfl rfl)
theorem dJ13_checkLength_37 : decode cJ13_checkLength 37 = .ok (.return_, 1) := dk_177 (dk_at dksJ13_checkLength_1 14 rfl rfl)
abbrev cJ13_copyOf_2 : ByteArray := prog_46_method_119_code
def yJ13_copyOf_2 : MethodName := ⟨RJ13, "copyOf", "([Ljava/lang/Object;I)[Ljava/lang/Object;"⟩
def dkwJ13_copyOf_2_0 : List UInt8 := [42, 27, 42, 182, 0, 86, 184, 1, 44, 176]
abbrev dktJ13_copyOf_2_0 : List UInt8 := dkwJ13_copyOf_2_0 ++ []
theorem dksJ13_copyOf_2_0 : cJ13_copyOf_2.data.toList.drop 0 = dktJ13_copyOf_2_0 := by decide +kernel
theorem dJ13_copyOf_2_0 : decode cJ13_copyOf_2 0 = .ok (.aload_n 0, 1) := dk_42 (dk_at dksJ13_copyOf_2_0 0 rfl rfl)
theorem dJ13_copyOf_2_1 : decode cJ13_copyOf_2 1 = .ok (.iload_n 1, 1) := dk_27 (dk_at dksJ13_copyOf_2_0 1 rfl rfl)
theorem dJ13_copyOf_2_2 : decode cJ13_copyOf_2 2 = .ok (.aload_n 0, 1) := dk_42 (dk_at dksJ13_copyOf_2_0 2 rfl rfl)
theorem dJ13_copyOf_2_3 : decode cJ13_copyOf_2 3 = .ok (.invokevirtual 86, 3) := dk_182 0 86 (dk_at dksJ13_copyOf_2_0 3 rfl rfl)
theorem dJ13_copyOf_2_6 : decode cJ13_copyOf_2 6 = .ok (.invokestatic 300, 3) := dk_184 1 44 (dk_at dksJ13_copyOf_2_0 6 rfl rfl)
theorem dJ13_copyOf_2_9 : decode cJ13_copyOf_2 9 = .ok (.areturn, 1) := dk_176 (dk_at dksJ13_copyOf_2_0 9 rfl rfl)
abbrev cJ13_copyOf_3 : ByteArray := prog_46_method_120_code
def yJ13_copyOf_3 : MethodName := ⟨RJ13, "copyOf", "([Ljava/lang/Object;ILjava/lang/Class;)[Ljava/lang/Object;"⟩
def dkwJ13_copyOf_3_1 : List UInt8 := [78, 42, 3, 45, 3, 42, 190, 27, 184, 1, 48, 184, 0, 150, 45, 176]
abbrev dktJ13_copyOf_3_1 : List UInt8 := dkwJ13_copyOf_3_1 ++ []
def dkwJ13_copyOf_3_0 : List UInt8 := [44, 18, 110, 166, 0, 10, 27, 189, 0, 2, 167, 0, 14, 44, 182, 0, 90, 27, 184, 0, 95, 192, 0, 110]
abbrev dktJ13_copyOf_3_0 : List UInt8 := dkwJ13_copyOf_3_0 ++ dktJ13_copyOf_3_1
theorem dksJ13_copyOf_3_0 : cJ13_copyOf_3.data.toList.drop 0 = dktJ13_copyOf_3_0 := by decide +kernel
theorem dksJ13_copyOf_3_1 : cJ13_copyOf_3.data.toList.drop 24 = dktJ13_copyOf_3_1 := dk_seg dksJ13_copyOf_3_0 24 rfl rfl
theorem dJ13_copyOf_3_0 : decode cJ13_copyOf_3 0 = .ok (.aload_n 2, 1) := dk_44 (dk_at dksJ13_copyOf_3_0 0 rfl rfl)
theorem dJ13_copyOf_3_1 : decode cJ13_copyOf_3 1 = .ok (.ldc 110, 2) := dk_18 110 (dk_at dksJ13_copyOf_3_0 1 rfl rfl)
theorem dJ13_copyOf_3_3 : decode cJ13_copyOf_3 3 = .ok (.if_acmp .ne 10, 3) := dk_166 0 10 (dk_at dksJ13_copyOf_3_0 3 rfl rfl)
theorem dJ13_copyOf_3_6 : decode cJ13_copyOf_3 6 = .ok (.iload_n 1, 1) := dk_27 (dk_at dksJ13_copyOf_3_0 6 rfl rfl)
theorem dJ13_copyOf_3_7 : decode cJ13_copyOf_3 7 = .ok (.anewarray 2, 3) := dk_189 0 2 (dk_at dksJ13_copyOf_3_0 7 rfl rfl)
theorem dJ13_copyOf_3_10 : decode cJ13_copyOf_3 10 = .ok (.goto 14, 3) := dk_167 0 14 (dk_at dksJ13_copyOf_3_0 10 rfl rfl)
theorem dJ13_copyOf_3_13 : decode cJ13_copyOf_3 13 = .ok (.aload_n 2, 1) := dk_44 (dk_at dksJ13_copyOf_3_0 13 rfl rfl)
theorem dJ13_copyOf_3_14 : decode cJ13_copyOf_3 14 = .ok (.invokevirtual 90, 3) := dk_182 0 90 (dk_at dksJ13_copyOf_3_0 14 rfl rfl)
theorem dJ13_copyOf_3_17 : decode cJ13_copyOf_3 17 = .ok (.iload_n 1, 1) := dk_27 (dk_at dksJ13_copyOf_3_0 17 rfl rfl)
theorem dJ13_copyOf_3_18 : decode cJ13_copyOf_3 18 = .ok (.invokestatic 95, 3) := dk_184 0 95 (dk_at dksJ13_copyOf_3_0 18 rfl rfl)
theorem dJ13_copyOf_3_21 : decode cJ13_copyOf_3 21 = .ok (.checkcast 110, 3) := dk_192 0 110 (dk_at dksJ13_copyOf_3_0 21 rfl rfl)
theorem dJ13_copyOf_3_24 : decode cJ13_copyOf_3 24 = .ok (.astore_n 3, 1) := dk_78 (dk_at dksJ13_copyOf_3_1 0 rfl rfl)
theorem dJ13_copyOf_3_25 : decode cJ13_copyOf_3 25 = .ok (.aload_n 0, 1) := dk_42 (dk_at dksJ13_copyOf_3_1 1 rfl rfl)
theorem dJ13_copyOf_3_26 : decode cJ13_copyOf_3 26 = .ok (.iconst 0, 1) := dk_3 (dk_at dksJ13_copyOf_3_1 2 rfl rfl)
theorem dJ13_copyOf_3_27 : decode cJ13_copyOf_3 27 = .ok (.aload_n 3, 1) := dk_45 (dk_at dksJ13_copyOf_3_1 3 rfl rfl)
theorem dJ13_copyOf_3_28 : decode cJ13_copyOf_3 28 = .ok (.iconst 0, 1) := dk_3 (dk_at dksJ13_copyOf_3_1 4 rfl rfl)
theorem dJ13_copyOf_3_29 : decode cJ13_copyOf_3 29 = .ok (.aload_n 0, 1) := dk_42 (dk_at dksJ13_copyOf_3_1 5 rfl rfl)
theorem dJ13_copyOf_3_30 : decode cJ13_copyOf_3 30 = .ok (.arraylength, 1) := dk_190 (dk_at dksJ13_copyOf_3_1 6 rfl rfl)
theorem dJ13_copyOf_3_31 : decode cJ13_copyOf_3 31 = .ok (.iload_n 1, 1) := dk_27 (dk_at dksJ13_copyOf_3_1 7 rfl rfl)
theorem dJ13_copyOf_3_32 : decode cJ13_copyOf_3 32 = .ok (.invokestatic 304, 3) := dk_184 1 48 (dk_at dksJ13_copyOf_3_1 8 rfl rfl)
theorem dJ13_copyOf_3_35 : decode cJ13_copyOf_3 35 = .ok (.invokestatic 150, 3) := dk_184 0 150 (dk_at dksJ13_copyOf_3_1 11 rfl rfl)
theorem dJ13_copyOf_3_38 : decode cJ13_copyOf_3 38 = .ok (.aload_n 3, 1) := dk_45 (dk_at dksJ13_copyOf_3_1 14 rfl rfl)
theorem dJ13_copyOf_3_39 : decode cJ13_copyOf_3 39 = .ok (.areturn, 1) := dk_176 (dk_at dksJ13_copyOf_3_1 15 rfl rfl)
theorem q122 : (Jvm.Cond.initialized "java/util/Arrays") ∈ lw_all := lw_g (lw_at lw_m1 16 rfl) rfl
theorem q283 : (Jvm.Cond.static ({ cls := "java/util/Arrays", name := "copyOf", desc := "([BI)[B" } : Jvm.MethodName)) ∈ lw_all := lw_g (lw_at lw_m1 177 rfl) rfl
theorem q284 : (Jvm.Cond.code ({ cls := "java/util/Arrays", name := "copyOf", desc := "([BI)[B" } : Jvm.MethodName) prog_46_method_121_code (3 : Nat) (Option.some (Jvm.ClassFile.FieldType.array Jvm.ClassFile.FieldType.byte))) ∈ lw_all := lw_g (lw_at lw_m1 178 rfl) rfl
theorem q285 : (Jvm.Cond.methodLink "java/util/Arrays" (310 : Nat) ({ cls := "[B", name := "clone", desc := "()Ljava/lang/Object;" } : Jvm.MethodName)) ∈ lw_all := lw_g (lw_at lw_m1 179 rfl) rfl
theorem q291 : (Jvm.Cond.classLink "java/util/Arrays" (311 : Nat) "[B") ∈ lw_all := lw_g (lw_at lw_m1 185 rfl) rfl
theorem q292 : (Jvm.Cond.methodLink "java/util/Arrays" (304 : Nat) ({ cls := "java/lang/Math", name := "min", desc := "(II)I" } : Jvm.MethodName)) ∈ lw_all := lw_g (lw_at lw_m1 186 rfl) rfl
theorem q295 : (Jvm.Cond.methodLink "java/util/Arrays" (150 : Nat) ({ cls := "java/lang/System", name := "arraycopy", desc := "(Ljava/lang/Object;ILjava/lang/Object;II)V" } : Jvm.MethodName)) ∈ lw_all := lw_g (lw_at lw_m1 189 rfl) rfl
theorem q425 : (Jvm.Cond.static ({ cls := "java/util/Arrays", name := "copyOfRange", desc := "([BII)[B" } : Jvm.MethodName)) ∈ lw_all := lw_g (lw_at lw_m2 79 rfl) rfl
theorem q426 : (Jvm.Cond.code ({ cls := "java/util/Arrays", name := "copyOfRange", desc := "([BII)[B" } : Jvm.MethodName) prog_46_method_132_code (3 : Nat) (Option.some (Jvm.ClassFile.FieldType.array Jvm.ClassFile.FieldType.byte))) ∈ lw_all := lw_g (lw_at lw_m2 80 rfl) rfl
theorem q427 : (Jvm.Cond.methodLink "java/util/Arrays" (339 : Nat) ({ cls := "java/util/Arrays", name := "copyOfRangeByte", desc := "([BII)[B" } : Jvm.MethodName)) ∈ lw_all := lw_g (lw_at lw_m2 81 rfl) rfl
theorem q428 : (Jvm.Cond.static ({ cls := "java/util/Arrays", name := "copyOfRangeByte", desc := "([BII)[B" } : Jvm.MethodName)) ∈ lw_all := lw_g (lw_at lw_m2 82 rfl) rfl
theorem q429 : (Jvm.Cond.code ({ cls := "java/util/Arrays", name := "copyOfRangeByte", desc := "([BII)[B" } : Jvm.MethodName) prog_46_method_133_code (5 : Nat) (Option.some (Jvm.ClassFile.FieldType.array Jvm.ClassFile.FieldType.byte))) ∈ lw_all := lw_g (lw_at lw_m2 83 rfl) rfl
theorem q430 : (Jvm.Cond.methodLink "java/util/Arrays" (343 : Nat) ({ cls := "java/util/Arrays", name := "checkLength", desc := "(II)V" } : Jvm.MethodName)) ∈ lw_all := lw_g (lw_at lw_m2 84 rfl) rfl
theorem q431 : (Jvm.Cond.static ({ cls := "java/util/Arrays", name := "checkLength", desc := "(II)V" } : Jvm.MethodName)) ∈ lw_all := lw_g (lw_at lw_m2 85 rfl) rfl
theorem q432 : (Jvm.Cond.code ({ cls := "java/util/Arrays", name := "checkLength", desc := "(II)V" } : Jvm.MethodName) prog_46_method_131_code (2 : Nat) (Option.none : Option Jvm.ClassFile.FieldType)) ∈ lw_all := lw_g (lw_at lw_m2 86 rfl) rfl
theorem q433 : (Jvm.Cond.classLink "java/util/Arrays" (43 : Nat) "java/lang/IllegalArgumentException") ∈ lw_all := lw_g (lw_at lw_m2 87 rfl) rfl
theorem q434 : (Jvm.Cond.classLink "java/util/Arrays" (45 : Nat) "java/lang/StringBuilder") ∈ lw_all := lw_g (lw_at lw_m2 88 rfl) rfl
theorem q435 : (Jvm.Cond.methodLink "java/util/Arrays" (47 : Nat) ({ cls := "java/lang/StringBuilder", name := "<init>", desc := "()V" } : Jvm.MethodName)) ∈ lw_all := lw_g (lw_at lw_m2 89 rfl) rfl
theorem q436 : (Jvm.Cond.methodLink "java/util/Arrays" (54 : Nat) ({ cls := "java/lang/StringBuilder", name := "append", desc := "(I)Ljava/lang/StringBuilder;" } : Jvm.MethodName)) ∈ lw_all := lw_g (lw_at lw_m2 90 rfl) rfl
theorem q437 : (Jvm.Cond.stringRef "java/util/Arrays" (337 : Nat) " > ") ∈ lw_tbl := lw_at lw_m2 91 rfl
theorem q438 : (Jvm.Cond.methodLink "java/util/Arrays" (50 : Nat) ({ cls := "java/lang/StringBuilder", name := "append", desc := "(Ljava/lang/String;)Ljava/lang/StringBuilder;" } : Jvm.MethodName)) ∈ lw_all := lw_g (lw_at lw_m2 92 rfl) rfl
theorem q439 : (Jvm.Cond.methodLink "java/util/Arrays" (61 : Nat) ({ cls := "java/lang/StringBuilder", name := "toString", desc := "()Ljava/lang/String;" } : Jvm.MethodName)) ∈ lw_all := lw_g (lw_at lw_m2 93 rfl) rfl
theorem q440 : (Jvm.Cond.methodLink "java/util/Arrays" (65 : Nat) ({ cls := "java/lang/IllegalArgumentException", name := "<init>", desc := "(Ljava/lang/String;)V" } : Jvm.MethodName)) ∈ lw_all := lw_g (lw_at lw_m2 94 rfl) rfl
theorem q613 : (Jvm.Cond.static ({ cls := "java/util/Arrays", name := "copyOf", desc := "([Ljava/lang/Object;I)[Ljava/lang/Object;" } : Jvm.MethodName)) ∈ lw_all := lw_g (lw_at lw_m3 27 rfl) rfl
theorem q614 : (Jvm.Cond.code ({ cls := "java/util/Arrays", name := "copyOf", desc := "([Ljava/lang/Object;I)[Ljava/lang/Object;" } : Jvm.MethodName) prog_46_method_119_code (2 : Nat) (Option.some (Jvm.ClassFile.FieldType.array (Jvm.ClassFile.FieldType.object "java/lang/Object")))) ∈ lw_all := lw_g (lw_at lw_m3 28 rfl) rfl
theorem q615 : (Jvm.Cond.methodLink "java/util/Arrays" (86 : Nat) ({ cls := "java/lang/Object", name := "getClass", desc := "()Ljava/lang/Class;" } : Jvm.MethodName)) ∈ lw_all := lw_g (lw_at lw_m3 29 rfl) rfl
theorem q642 : (Jvm.Cond.methodLink "java/util/Arrays" (300 : Nat) ({ cls := "java/util/Arrays", name := "copyOf", desc := "([Ljava/lang/Object;ILjava/lang/Class;)[Ljava/lang/Object;" } : Jvm.MethodName)) ∈ lw_all := lw_g (lw_at lw_m3 56 rfl) rfl
theorem q643 : (Jvm.Cond.static ({ cls := "java/util/Arrays", name := "copyOf", desc := "([Ljava/lang/Object;ILjava/lang/Class;)[Ljava/lang/Object;" } : Jvm.MethodName)) ∈ lw_all := lw_g (lw_at lw_m3 57 rfl) rfl
theorem q644 : (Jvm.Cond.code ({ cls := "java/util/Arrays", name := "copyOf", desc := "([Ljava/lang/Object;ILjava/lang/Class;)[Ljava/lang/Object;" } : Jvm.MethodName) prog_46_method_120_code (4 : Nat) (Option.some (Jvm.ClassFile.FieldType.array (Jvm.ClassFile.FieldType.object "java/lang/Object")))) ∈ lw_all := lw_g (lw_at lw_m3 58 rfl) rfl
theorem q645 : (Jvm.Cond.classLink "java/util/Arrays" (110 : Nat) "[Ljava/lang/Object;") ∈ lw_all := lw_g (lw_at lw_m3 59 rfl) rfl
theorem q646 : (Jvm.Cond.classLink "java/util/Arrays" (2 : Nat) "java/lang/Object") ∈ lw_all := lw_g (lw_at lw_m3 60 rfl) rfl
/-! jdk/internal/util/Preconditions -/
set_option maxRecDepth 100000
def RJ14 : String := "jdk/internal/util/Preconditions"
abbrev cJ14_checkFromToIndex : ByteArray := prog_54_method_12_code
def yJ14_checkFromToIndex : MethodName := ⟨RJ14, "checkFromToIndex", "(IIILjava/util/function/BiFunction;)I"⟩
def dkwJ14_checkFromToIndex_0 : List UInt8 := [26, 155, 0, 13, 26, 27, 163, 0, 8, 27, 28, 164, 0, 11, 45, 26, 27, 28, 184, 0, 99, 191, 26, 172]
abbrev dktJ14_checkFromToIndex_0 : List UInt8 := dkwJ14_checkFromToIndex_0 ++ []
theorem dksJ14_checkFromToIndex_0 : cJ14_checkFromToIndex.data.toList.drop 0 = dktJ14_checkFromToIndex_0 := by decide +kernel
theorem dJ14_checkFromToIndex_0 : decode cJ14_checkFromToIndex 0 = .ok (.iload_n 0, 1) := dk_26 (dk_at dksJ14_checkFromToIndex_0 0 rfl rfl)
theorem dJ14_checkFromToIndex_1 : decode cJ14_checkFromToIndex 1 = .ok (.ifCond .lt 13, 3) := dk_155 0 13 (dk_at dksJ14_checkFromToIndex_0 1 rfl rfl)
theorem dJ14_checkFromToIndex_4 : decode cJ14_checkFromToIndex 4 = .ok (.iload_n 0, 1) := dk_26 (dk_at dksJ14_checkFromToIndex_0 4 rfl rfl)
theorem dJ14_checkFromToIndex_5 : decode cJ14_checkFromToIndex 5 = .ok (.iload_n 1, 1) := dk_27 (dk_at dksJ14_checkFromToIndex_0 5 rfl rfl)
theorem dJ14_checkFromToIndex_6 : decode cJ14_checkFromToIndex 6 = .ok (.if_icmp .gt 8, 3) := dk_163 0 8 (dk_at dksJ14_checkFromToIndex_0 6 rfl rfl)
theorem dJ14_checkFromToIndex_9 : decode cJ14_checkFromToIndex 9 = .ok (.iload_n 1, 1) := dk_27 (dk_at dksJ14_checkFromToIndex_0 9 rfl rfl)
theorem dJ14_checkFromToIndex_10 : decode cJ14_checkFromToIndex 10 = .ok (.iload_n 2, 1) := dk_28 (dk_at dksJ14_checkFromToIndex_0 10 rfl rfl)
theorem dJ14_checkFromToIndex_11 : decode cJ14_checkFromToIndex 11 = .ok (.if_icmp .le 11, 3) := dk_164 0 11 (dk_at dksJ14_checkFromToIndex_0 11 rfl rfl)
theorem dJ14_checkFromToIndex_14 : decode cJ14_checkFromToIndex 14 = .ok (.aload_n 3, 1) := dk_45 (dk_at dksJ14_checkFromToIndex_0 14 rfl rfl)
theorem dJ14_checkFromToIndex_15 : decode cJ14_checkFromToIndex 15 = .ok (.iload_n 0, 1) := dk_26 (dk_at dksJ14_checkFromToIndex_0 15 rfl rfl)
theorem dJ14_checkFromToIndex_16 : decode cJ14_checkFromToIndex 16 = .ok (.iload_n 1, 1) := dk_27 (dk_at dksJ14_checkFromToIndex_0 16 rfl rfl)
theorem dJ14_checkFromToIndex_17 : decode cJ14_checkFromToIndex 17 = .ok (.iload_n 2, 1) := dk_28 (dk_at dksJ14_checkFromToIndex_0 17 rfl rfl)
theorem dJ14_checkFromToIndex_18 : decode cJ14_checkFromToIndex 18 = .ok (.invokestatic 99, 3) := dk_184 0 99 (dk_at dksJ14_checkFromToIndex_0 18 rfl rfl)
theorem dJ14_checkFromToIndex_21 : decode cJ14_checkFromToIndex 21 = .ok (.athrow, 1) := dk_191 (dk_at dksJ14_checkFromToIndex_0 21 rfl rfl)
theorem dJ14_checkFromToIndex_22 : decode cJ14_checkFromToIndex 22 = .ok (.iload_n 0, 1) := dk_26 (dk_at dksJ14_checkFromToIndex_0 22 rfl rfl)
theorem dJ14_checkFromToIndex_23 : decode cJ14_checkFromToIndex 23 = .ok (.ireturn, 1) := dk_172 (dk_at dksJ14_checkFromToIndex_0 23 rfl rfl)
abbrev cJ14_checkFromIndexSize : ByteArray := prog_54_method_13_code
def yJ14_checkFromIndexSize : MethodName := ⟨RJ14, "checkFromIndexSize", "(IIILjava/util/function/BiFunction;)I"⟩
def dkwJ14_checkFromIndexSize_1 : List UInt8 := [172]
abbrev dktJ14_checkFromIndexSize_1 : List UInt8 := dkwJ14_checkFromIndexSize_1 ++ []
def dkwJ14_checkFromIndexSize_0 : List UInt8 := [28, 26, 128, 27, 128, 155, 0, 10, 27, 28, 26, 100, 164, 0, 11, 45, 26, 27, 28, 184, 0, 103, 191, 26]
abbrev dktJ14_checkFromIndexSize_0 : List UInt8 := dkwJ14_checkFromIndexSize_0 ++ dktJ14_checkFromIndexSize_1
theorem dksJ14_checkFromIndexSize_0 : cJ14_checkFromIndexSize.data.toList.drop 0 = dktJ14_checkFromIndexSize_0 := by decide +kernel
theorem dksJ14_checkFromIndexSize_1 : cJ14_checkFromIndexSize.data.toList.drop 24 = dktJ14_checkFromIndexSize_1 := dk_seg dksJ14_checkFromIndexSize_0 24 rfl rfl
theorem dJ14_checkFromIndexSize_0 : decode cJ14_checkFromIndexSize 0 = .ok (.iload_n 2, 1) := dk_28 (dk_at dksJ14_checkFromIndexSize_0 0 rfl rfl)
theorem dJ14_checkFromIndexSize_1 : decode cJ14_checkFromIndexSize 1 = .ok (.iload_n 0, 1) := dk_26 (dk_at dksJ14_checkFromIndexSize_0 1 rfl rfl)
theorem dJ14_checkFromIndexSize_2 : decode cJ14_checkFromIndexSize 2 = .ok (.ior, 1) := dk_128 (dk_at dksJ14_checkFromIndexSize_0 2 rfl rfl)
theorem dJ14_checkFromIndexSize_3 : decode cJ14_checkFromIndexSize 3 = .ok (.iload_n 1, 1) := dk_27 (dk_at dksJ14_checkFromIndexSize_0 3 rfl rfl)
theorem dJ14_checkFromIndexSize_4 : decode cJ14_checkFromIndexSize 4 = .ok (.ior, 1) := dk_128 (dk_at dksJ14_checkFromIndexSize_0 4 rfl rfl)
theorem dJ14_checkFromIndexSize_5 : decode cJ14_checkFromIndexSize 5 = .ok (.ifCond .lt 10, 3) := dk_155 0 10 (dk_at dksJ14_checkFromIndexSize_0 5 rfl rfl)
theorem dJ14_checkFromIndexSize_8 : decode cJ14_checkFromIndexSize 8 = .ok (.iload_n 1, 1) := dk_27 (dk_at dksJ14_checkFromIndexSize_0 8 rfl rfl)
theorem dJ14_checkFromIndexSize_9 : decode cJ14_checkFromIndexSize 9 = .ok (.iload_n 2, 1) := dk_28 (dk_at dksJ14_checkFromIndexSize_0 9 rfl rfl)
theorem dJ14_checkFromIndexSize_10 : decode cJ14_checkFromIndexSize 10 = .ok (.iload_n 0, 1) := dk_26 (dk_at dksJ14_checkFromIndexSize_0 10 rfl rfl)
theorem dJ14_checkFromIndexSize_11 : decode cJ14_checkFromIndexSize 11 = .ok (.isub, 1) := dk_100 (dk_at dksJ14_checkFromIndexSize_0 11 rfl rfl)
theorem dJ14_checkFromIndexSize_12 : decode cJ14_checkFromIndexSize 12 = .ok (.if_icmp .le 11, 3) := dk_164 0 11 (dk_at dksJ14_checkFromIndexSize_0 12 rfl rfl)
theorem dJ14_checkFromIndexSize_15 : decode cJ14_checkFromIndexSize 15 = .ok (.aload_n 3, 1) := dk_45 (dk_at dksJ14_checkFromIndexSize_0 15 rfl rfl)
theorem dJ14_checkFromIndexSize_16 : decode cJ14_checkFromIndexSize 16 = .ok (.iload_n 0, 1) := dk_26 (dk_at dksJ14_checkFromIndexSize_0 16 rfl rfl)
theorem dJ14_checkFromIndexSize_17 : decode cJ14_checkFromIndexSize 17 = .ok (.iload_n 1, 1) := dk_27 (dk_at dksJ14_checkFromIndexSize_0 17 rfl rfl)
theorem dJ14_checkFromIndexSize_18 : decode cJ14_checkFromIndexSize 18 = .ok (.iload_n 2, 1) := dk_28 (dk_at dksJ14_checkFromIndexSize_0 18 rfl rfl)
theorem dJ14_checkFromIndexSize_19 : decode cJ14_checkFromIndexSize 19 = .ok (.invokestatic 103, 3) := dk_184 0 103 (dk_at dksJ14_checkFromIndexSize_0 19 rfl rfl)
theorem dJ14_checkFromIndexSize_22 : decode cJ14_checkFromIndexSize 22 = .ok (.athrow, 1) := dk_191 (dk_at dksJ14_checkFromIndexSize_0 22 rfl rfl)
theorem dJ14_checkFromIndexSize_23 : decode cJ14_checkFromIndexSize 23 = .ok (.iload_n 0, 1) := dk_26 (dk_at dksJ14_checkFromIndexSize_0 23 rfl rfl)
theorem dJ14_checkFromIndexSize_24 : decode cJ14_checkFromIndexSize 24 = .ok (.ireturn, 1) := dk_172 (dk_at dksJ14_checkFromIndexSize_1 0 rfl rfl)
abbrev cJ14_checkIndex : ByteArray := prog_54_method_11_code
def yJ14_checkIndex : MethodName := ⟨RJ14, "checkIndex", "(IILjava/util/function/BiFunction;)I"⟩
def dkwJ14_checkIndex_0 : List UInt8 := [26, 155, 0, 8, 26, 27, 161, 0, 10, 44, 26, 27, 184, 0, 95, 191, 26, 172]
abbrev dktJ14_checkIndex_0 : List UInt8 := dkwJ14_checkIndex_0 ++ []
theorem dksJ14_checkIndex_0 : cJ14_checkIndex.data.toList.drop 0 = dktJ14_checkIndex_0 := by decide +kernel
theorem dJ14_checkIndex_0 : decode cJ14_checkIndex 0 = .ok (.iload_n 0, 1) := dk_26 (dk_at dksJ14_checkIndex_0 0 rfl rfl)
theorem dJ14_checkIndex_1 : decode cJ14_checkIndex 1 = .ok (.ifCond .lt 8, 3) := dk_155 0 8 (dk_at dksJ14_checkIndex_0 1 rfl rfl)
theorem dJ14_checkIndex_4 : decode cJ14_checkIndex 4 = .ok (.iload_n 0, 1) := dk_26 (dk_at dksJ14_checkIndex_0 4 rfl rfl)
theorem dJ14_checkIndex_5 : decode cJ14_checkIndex 5 = .ok (.iload_n 1, 1) := dk_27 (dk_at dksJ14_checkIndex_0 5 rfl rfl)
theorem dJ14_checkIndex_6 : decode cJ14_checkIndex 6 = .ok (.if_icmp .lt 10, 3) := dk_161 0 10 (dk_at dksJ14_checkIndex_0 6 rfl rfl)
theorem dJ14_checkIndex_9 : decode cJ14_checkIndex 9 = .ok (.aload_n 2, 1) := dk_44 (dk_at dksJ14_checkIndex_0 9 rfl rfl)
theorem dJ14_checkIndex_10 : decode cJ14_checkIndex 10 = .ok (.iload_n 0, 1) := dk_26 (dk_at dksJ14_checkIndex_0 10 rfl rfl)
theorem dJ14_checkIndex_11 : decode cJ14_checkIndex 11 = .ok (.iload_n 1, 1) := dk_27 (dk_at dksJ14_checkIndex_0 11 rfl rfl)
theorem dJ14_checkIndex_12 : decode cJ14_checkIndex 12 = .ok (.invokestatic 95, 3) := dk_184 0 95 (dk_at dksJ14_checkIndex_0 12 rfl rfl)
theorem dJ14_checkIndex_15 : decode cJ14_checkIndex 15 = .ok (.athrow, 1) := dk_191 (dk_at dksJ14_checkIndex_0 15 rfl rfl)
theorem dJ14_checkIndex_16 : decode cJ14_checkIndex 16 = .ok (.iload_n 0, 1) := dk_26 (dk_at dksJ14_checkIndex_0 16 rfl rfl)
theorem dJ14_checkIndex_17 : decode cJ14_checkIndex 17 = .ok (.ireturn, 1) := dk_172 (dk_at dksJ14_checkIndex_0 17 rfl rfl)
theorem q124 : (Jvm.Cond.initialized "jdk/internal/util/Preconditions") ∈ lw_all := lw_g (lw_at lw_m1 18 rfl) rfl
theorem q316 : (Jvm.Cond.laysStatic "jdk/internal/util/Preconditions" "SIOOBE_FORMATTER" "Ljava/util/function/BiFunction;") ∈ lw_tbl := lw_at lw_m1 210 rfl
theorem q318 : (Jvm.Cond.static ({ cls := "jdk/internal/util/Preconditions", name := "checkFromToIndex", desc := "(IIILjava/util/function/BiFunction;)I" } : Jvm.MethodName)) ∈ lw_all := lw_g (lw_at lw_m1 212 rfl) rfl
theorem q319 : (Jvm.Cond.code ({ cls := "jdk/internal/util/Preconditions", name := "checkFromToIndex", desc := "(IIILjava/util/function/BiFunction;)I" } : Jvm.MethodName) prog_54_method_12_code (4 : Nat) (Option.some Jvm.ClassFile.FieldType.int)) ∈ lw_all := lw_g (lw_at lw_m1 213 rfl) rfl
theorem q364 : (Jvm.Cond.static ({ cls := "jdk/internal/util/Preconditions", name := "checkFromIndexSize", desc := "(IIILjava/util/function/BiFunction;)I" } : Jvm.MethodName)) ∈ lw_all := lw_g (lw_at lw_m2 18 rfl) rfl
theorem q365 : (Jvm.Cond.code ({ cls := "jdk/internal/util/Preconditions", name := "checkFromIndexSize", desc := "(IIILjava/util/function/BiFunction;)I" } : Jvm.MethodName) prog_54_method_13_code (4 : Nat) (Option.some Jvm.ClassFile.FieldType.int)) ∈ lw_all := lw_g (lw_at lw_m2 19 rfl) rfl
theorem q695 : (Jvm.Cond.static ({ cls := "jdk/internal/util/Preconditions", name := "checkIndex", desc := "(IILjava/util/function/BiFunction;)I" } : Jvm.MethodName)) ∈ lw_all := lw_g (lw_at lw_m3 109 rfl) rfl
theorem q696 : (Jvm.Cond.code ({ cls := "jdk/internal/util/Preconditions", name := "checkIndex", desc := "(IILjava/util/function/BiFunction;)I" } : Jvm.MethodName) prog_54_method_11_code (3 : Nat) (Option.some Jvm.ClassFile.FieldType.int)) ∈ lw_all := lw_g (lw_at lw_m3 110 rfl) rfl
/-! java/lang/StringLatin1 -/
set_option maxRecDepth 100000
def RJ15 : String := "java/lang/StringLatin1"
abbrev cJ15_inflate : ByteArray := prog_37_method_50_code
def yJ15_inflate : MethodName := ⟨RJ15, "inflate", "([BI[BII)V"⟩
def dkwJ15_inflate_0 : List UInt8 := [42, 27, 44, 29, 21, 4, 184, 0, 240, 177]
abbrev dktJ15_inflate_0 : List UInt8 := dkwJ15_inflate_0 ++ []
theorem dksJ15_inflate_0 : cJ15_inflate.data.toList.drop 0 = dktJ15_inflate_0 := by decide +kernel
theorem dJ15_inflate_0 : decode cJ15_inflate 0 = .ok (.aload_n 0, 1) := dk_42 (dk_at dksJ15_inflate_0 0 rfl rfl)
theorem dJ15_inflate_1 : decode cJ15_inflate 1 = .ok (.iload_n 1, 1) := dk_27 (dk_at dksJ15_inflate_0 1 rfl rfl)
theorem dJ15_inflate_2 : decode cJ15_inflate 2 = .ok (.aload_n 2, 1) := dk_44 (dk_at dksJ15_inflate_0 2 rfl rfl)
theorem dJ15_inflate_3 : decode cJ15_inflate 3 = .ok (.iload_n 3, 1) := dk_29 (dk_at dksJ15_inflate_0 3 rfl rfl)
theorem dJ15_inflate_4 : decode cJ15_inflate 4 = .ok (.iload 4, 2) := dk_21 4 (dk_at dksJ15_inflate_0 4 rfl rfl)
theorem dJ15_inflate_6 : decode cJ15_inflate 6 = .ok (.invokestatic 240, 3) := dk_184 0 240 (dk_at dksJ15_inflate_0 6 rfl rfl)
theorem dJ15_inflate_9 : decode cJ15_inflate 9 = .ok (.return_, 1) := dk_177 (dk_at dksJ15_inflate_0 9 rfl rfl)
abbrev cJ15_canEncode : ByteArray := prog_37_method_3_code
def yJ15_canEncode : MethodName := ⟨RJ15, "canEncode", "(C)Z"⟩
def dkwJ15_canEncode_0 : List UInt8 := [26, 17, 0, 255, 163, 0, 7, 4, 167, 0, 4, 3, 172]
abbrev dktJ15_canEncode_0 : List UInt8 := dkwJ15_canEncode_0 ++ []
theorem dksJ15_canEncode_0 : cJ15_canEncode.data.toList.drop 0 = dktJ15_canEncode_0 := by decide +kernel
theorem dJ15_canEncode_0 : decode cJ15_canEncode 0 = .ok (.iload_n 0, 1) := dk_26 (dk_at dksJ15_canEncode_0 0 rfl rfl)
theorem dJ15_canEncode_1 : decode cJ15_canEncode 1 = .ok (.sipush 255, 3) := dk_17 0 255 (dk_at dksJ15_canEncode_0 1 rfl rfl)
theorem dJ15_canEncode_4 : decode cJ15_canEncode 4 = .ok (.if_icmp .gt 7, 3) := dk_163 0 7 (dk_at dksJ15_canEncode_0 4 rfl rfl)
theorem dJ15_canEncode_7 : decode cJ15_canEncode 7 = .ok (.iconst 1, 1) := dk_4 (dk_at dksJ15_canEncode_0 7 rfl rfl)
theorem dJ15_canEncode_8 : decode cJ15_canEncode 8 = .ok (.goto 4, 3) := dk_167 0 4 (dk_at dksJ15_canEncode_0 8 rfl rfl)
theorem dJ15_canEncode_11 : decode cJ15_canEncode 11 = .ok (.iconst 0, 1) := dk_3 (dk_at dksJ15_canEncode_0 11 rfl rfl)
theorem dJ15_canEncode_12 : decode cJ15_canEncode 12 = .ok (.ireturn, 1) := dk_172 (dk_at dksJ15_canEncode_0 12 rfl rfl)
abbrev cJ15_toBytes : ByteArray := prog_37_method_46_code
def yJ15_toBytes : MethodName := ⟨RJ15, "toBytes", "(C)[B"⟩
def dkwJ15_toBytes_0 : List UInt8 := [4, 188, 8, 89, 3, 26, 145, 84, 176]
abbrev dktJ15_toBytes_0 : List UInt8 := dkwJ15_toBytes_0 ++ []
theorem dksJ15_toBytes_0 : cJ15_toBytes.data.toList.drop 0 = dktJ15_toBytes_0 := by decide +kernel
theorem dJ15_toBytes_0 : decode cJ15_toBytes 0 = .ok (.iconst 1, 1) := dk_4 (dk_at dksJ15_toBytes_0 0 rfl rfl)
theorem dJ15_toBytes_1 : decode cJ15_toBytes 1 = .ok (.newarray .byte, 2) := dk_188_8 (dk_at dksJ15_toBytes_0 1 rfl rfl)
theorem dJ15_toBytes_3 : decode cJ15_toBytes 3 = .ok (.dup, 1) := dk_89 (dk_at dksJ15_toBytes_0 3 rfl rfl)
theorem dJ15_toBytes_4 : decode cJ15_toBytes 4 = .ok (.iconst 0, 1) := dk_3 (dk_at dksJ15_toBytes_0 4 rfl rfl)
theorem dJ15_toBytes_5 : decode cJ15_toBytes 5 = .ok (.iload_n 0, 1) := dk_26 (dk_at dksJ15_toBytes_0 5 rfl rfl)
theorem dJ15_toBytes_6 : decode cJ15_toBytes 6 = .ok (.i2b, 1) := dk_145 (dk_at dksJ15_toBytes_0 6 rfl rfl)
theorem dJ15_toBytes_7 : decode cJ15_toBytes 7 = .ok (.bastore, 1) := dk_84 (dk_at dksJ15_toBytes_0 7 rfl rfl)
theorem dJ15_toBytes_8 : decode cJ15_toBytes 8 = .ok (.areturn, 1) := dk_176 (dk_at dksJ15_toBytes_0 8 rfl rfl)
abbrev cJ15_equals : ByteArray := prog_37_method_13_code
def yJ15_equals : MethodName := ⟨RJ15, "equals", "([B[B)Z"⟩
def dkwJ15_equals_1 : List UInt8 := [3, 172, 132, 2, 1, 167, 255, 236, 4, 172, 3, 172]
abbrev dktJ15_equals_1 : List UInt8 := dkwJ15_equals_1 ++ []
def dkwJ15_equals_0 : List UInt8 := [42, 190, 43, 190, 160, 0, 30, 3, 61, 28, 42, 190, 162, 0, 20, 42, 28, 51, 43, 28, 51, 159, 0, 5]
abbrev dktJ15_equals_0 : List UInt8 := dkwJ15_equals_0 ++ dktJ15_equals_1
theorem dksJ15_equals_0 : cJ15_equals.data.toList.drop 0 = dktJ15_equals_0 := by decide +kernel
theorem dksJ15_equals_1 : cJ15_equals.data.toList.drop 24 = dktJ15_equals_1 := dk_seg dksJ15_equals_0 24 rfl rfl
theorem dJ15_equals_0 : decode cJ15_equals 0 = .ok (.aload_n 0, 1) := dk_42 (dk_at dksJ15_equals_0 0 rfl rfl)
theorem dJ15_equals_1 : decode cJ15_equals 1 = .ok (.arraylength, 1) := dk_190 (dk_at dksJ15_equals_0 1 rfl rfl)
theorem dJ15_equals_2 : decode cJ15_equals 2 = .ok (.aload_n 1, 1) := dk_43 (dk_at dksJ15_equals_0 2 rfl rfl)
theorem dJ15_equals_3 : decode cJ15_equals 3 = .ok (.arraylength, 1) := dk_190 (dk_at dksJ15_equals_0 3 rfl rfl)
theorem dJ15_equals_4 : decode cJ15_equals 4 = .ok (.if_icmp .ne 30, 3) := dk_160 0 30 (dk_at dksJ15_equals_0 4 rfl rfl)
theorem dJ15_equals_7 : decode cJ15_equals 7 = .ok (.iconst 0, 1) := dk_3 (dk_at dksJ15_equals_0 7 rfl rfl)
theorem dJ15_equals_8 : decode cJ15_equals 8 = .ok (.istore_n 2, 1) := dk_61 (dk_at dksJ15_equals_0 8 rfl rfl)
theorem dJ15_equals_9 : decode cJ15_equals 9 = .ok (.iload_n 2, 1) := dk_28 (dk_at dksJ15_equals_0 9 rfl rfl)
theorem dJ15_equals_10 : decode cJ15_equals 10 = .ok (.aload_n 0, 1) := dk_42 (dk_at dksJ15_equals_0 10 rfl rfl)
theorem dJ15_equals_11 : decode cJ15_equals 11 = .ok (.arraylength, 1) := dk_190 (dk_at dksJ15_equals_0 11 rfl rfl)
theorem dJ15_equals_12 : decode cJ15_equals 12 = .ok (.if_icmp .ge 20, 3) := dk_162 0 20 (dk_at dksJ15_equals_0 12 rfl rfl)
theorem dJ15_equals_15 : decode cJ15_equals 15 = .ok (.aload_n 0, 1) := dk_42 (dk_at dksJ15_equals_0 15 rfl rfl)
theorem dJ15_equals_16 : decode cJ15_equals 16 = .ok (.iload_n 2, 1) := dk_28 (dk_at dksJ15_equals_0 16 rfl rfl)
theorem dJ15_equals_17 : decode cJ15_equals 17 = .ok (.baload, 1) := dk_51 (dk_at dksJ15_equals_0 17 rfl rfl)
theorem dJ15_equals_18 : decode cJ15_equals 18 = .ok (.aload_n 1, 1) := dk_43 (dk_at dksJ15_equals_0 18 rfl rfl)
theorem dJ15_equals_19 : decode cJ15_equals 19 = .ok (.iload_n 2, 1) := dk_28 (dk_at dksJ15_equals_0 19 rfl rfl)
theorem dJ15_equals_20 : decode cJ15_equals 20 = .ok (.baload, 1) := dk_51 (dk_at dksJ15_equals_0 20 rfl rfl)
theorem dJ15_equals_21 : decode cJ15_equals 21 = .ok (.if_icmp .eq 5, 3) := dk_159 0 5 (dk_at dksJ15_equals_0 21 rfl rfl)
theorem dJ15_equals_24 : decode cJ15_equals 24 = .ok (.iconst 0, 1) := dk_3 (dk_at dksJ15_equals_1 0 rfl rfl)
theorem dJ15_equals_25 : decode cJ15_equals 25 = .ok (.ireturn, 1) := dk_172 (dk_at dksJ15_equals_1 1 rfl rfl)
theorem dJ15_equals_26 : decode cJ15_equals 26 = .ok (.iinc 2 1, 3) := dk_132 2 1 (dk_at dksJ15_equals_1 2 rfl rfl)
theorem dJ15_equals_29 : decode cJ15_equals 29 = .ok (.goto (-20), 3) := dk_167 255 236 (dk_at dksJ15_equals_1 5 rfl rfl)
theorem dJ15_equals_32 : decode cJ15_equals 32 = .ok (.iconst 1, 1) := dk_4 (dk_at dksJ15_equals_1 8 rfl rfl)
theorem dJ15_equals_33 : decode cJ15_equals 33 = .ok (.ireturn, 1) := dk_172 (dk_at dksJ15_equals_1 9 rfl rfl)
theorem dJ15_equals_34 : decode cJ15_equals 34 = .ok (.iconst 0, 1) := dk_3 (dk_at dksJ15_equals_1 10 rfl rfl)
theorem dJ15_equals_35 : decode cJ15_equals 35 = .ok (.ireturn, 1) := dk_172 (dk_at dksJ15_equals_1 11 rfl rfl)
abbrev cJ15_charAt : ByteArray := prog_37_method_2_code
def yJ15_charAt : MethodName := ⟨RJ15, "charAt", "([BI)C"⟩
def dkwJ15_charAt_0 : List UInt8 := [27, 42, 190, 184, 0, 9, 42, 27, 51, 17, 0, 255, 126, 146, 172]
abbrev dktJ15_charAt_0 : List UInt8 := dkwJ15_charAt_0 ++ []
theorem dksJ15_charAt_0 : cJ15_charAt.data.toList.drop 0 = dktJ15_charAt_0 := by decide +kernel
theorem dJ15_charAt_0 : decode cJ15_charAt 0 = .ok (.iload_n 1, 1) := dk_27 (dk_at dksJ15_charAt_0 0 rfl rfl)
theorem dJ15_charAt_1 : decode cJ15_charAt 1 = .ok (.aload_n 0, 1) := dk_42 (dk_at dksJ15_charAt_0 1 rfl rfl)
theorem dJ15_charAt_2 : decode cJ15_charAt 2 = .ok (.arraylength, 1) := dk_190 (dk_at dksJ15_charAt_0 2 rfl rfl)
theorem dJ15_charAt_3 : decode cJ15_charAt 3 = .ok (.invokestatic 9, 3) := dk_184 0 9 (dk_at dksJ15_charAt_0 3 rfl rfl)
theorem dJ15_charAt_6 : decode cJ15_charAt 6 = .ok (.aload_n 0, 1) := dk_42 (dk_at dksJ15_charAt_0 6 rfl rfl)
theorem dJ15_charAt_7 : decode cJ15_charAt 7 = .ok (.iload_n 1, 1) := dk_27 (dk_at dksJ15_charAt_0 7 rfl rfl)
theorem dJ15_charAt_8 : decode cJ15_charAt 8 = .ok (.baload, 1) := dk_51 (dk_at dksJ15_charAt_0 8 rfl rfl)
theorem dJ15_charAt_9 : decode cJ15_charAt 9 = .ok (.sipush 255, 3) := dk_17 0 255 (dk_at dksJ15_charAt_0 9 rfl rfl)
theorem dJ15_charAt_12 : decode cJ15_charAt 12 = .ok (.iand, 1) := dk_126 (dk_at dksJ15_charAt_0 12 rfl rfl)
theorem dJ15_charAt_13 : decode cJ15_charAt 13 = .ok (.i2c, 1) := dk_146 (dk_at dksJ15_charAt_0 13 rfl rfl)
theorem dJ15_charAt_14 : decode cJ15_charAt 14 = .ok (.ireturn, 1) := dk_172 (dk_at dksJ15_charAt_0 14 rfl rfl)
theorem q125 : (Jvm.Cond.initialized "java/lang/StringLatin1") ∈ lw_all := lw_g (lw_at lw_m1 19 rfl) rfl
theorem q352 : (Jvm.Cond.static ({ cls := "java/lang/StringLatin1", name := "inflate", desc := "([BI[BII)V" } : Jvm.MethodName)) ∈ lw_all := lw_g (lw_at lw_m2 6 rfl) rfl
theorem q353 : (Jvm.Cond.code ({ cls := "java/lang/StringLatin1", name := "inflate", desc := "([BI[BII)V" } : Jvm.MethodName) prog_37_method_50_code (5 : Nat) (Option.none : Option Jvm.ClassFile.FieldType)) ∈ lw_all := lw_g (lw_at lw_m2 7 rfl) rfl
theorem q354 : (Jvm.Cond.methodLink "java/lang/StringLatin1" (240 : Nat) ({ cls := "java/lang/StringUTF16", name := "inflate", desc := "([BI[BII)V" } : Jvm.MethodName)) ∈ lw_all := lw_g (lw_at lw_m2 8 rfl) rfl
theorem q1185 : (Jvm.Cond.static ({ cls := "java/lang/StringLatin1", name := "canEncode", desc := "(C)Z" } : Jvm.MethodName)) ∈ lw_all := lw_g (lw_at lw_m5 119 rfl) rfl
theorem q1186 : (Jvm.Cond.code ({ cls := "java/lang/StringLatin1", name := "canEncode", desc := "(C)Z" } : Jvm.MethodName) prog_37_method_3_code (1 : Nat) (Option.some Jvm.ClassFile.FieldType.boolean)) ∈ lw_all := lw_g (lw_at lw_m5 120 rfl) rfl
theorem q1218 : (Jvm.Cond.static ({ cls := "java/lang/StringLatin1", name := "toBytes", desc := "(C)[B" } : Jvm.MethodName)) ∈ lw_all := lw_g (lw_at lw_m5 152 rfl) rfl
theorem q1219 : (Jvm.Cond.code ({ cls := "java/lang/StringLatin1", name := "toBytes", desc := "(C)[B" } : Jvm.MethodName) prog_37_method_46_code (1 : Nat) (Option.some (Jvm.ClassFile.FieldType.array Jvm.ClassFile.FieldType.byte))) ∈ lw_all := lw_g (lw_at lw_m5 153 rfl) rfl
theorem q1274 : (Jvm.Cond.static ({ cls := "java/lang/StringLatin1", name := "equals", desc := "([B[B)Z" } : Jvm.MethodName)) ∈ lw_all := lw_g (lw_at lw_m5 208 rfl) rfl
theorem q1275 : (Jvm.Cond.code ({ cls := "java/lang/StringLatin1", name := "equals", desc := "([B[B)Z" } : Jvm.MethodName) prog_37_method_13_code (3 : Nat) (Option.some Jvm.ClassFile.FieldType.boolean)) ∈ lw_all := lw_g (lw_at lw_m5 209 rfl) rfl
theorem q1389 : (Jvm.Cond.static ({ cls := "java/lang/StringLatin1", name := "charAt", desc := "([BI)C" } : Jvm.MethodName)) ∈ lw_all := lw_g (lw_at lw_m6 83 rfl) rfl
theorem q1390 : (Jvm.Cond.code ({ cls := "java/lang/StringLatin1", name := "charAt", desc := "([BI)C" } : Jvm.MethodName) prog_37_method_2_code (2 : Nat) (Option.some Jvm.ClassFile.FieldType.char)) ∈ lw_all := lw_g (lw_at lw_m6 84 rfl) rfl
theorem q1391 : (Jvm.Cond.methodLink "java/lang/StringLatin1" (9 : Nat) ({ cls := "java/lang/String", name := "checkIndex", desc := "(II)V" } : Jvm.MethodName)) ∈ lw_all := lw_g (lw_at lw_m6 85 rfl) rfl
/-! java/lang/Integer -/
set_option maxRecDepth 100000
def RJ16 : String := "java/lang/Integer"
abbrev cJ16_stringSize : ByteArray := prog_30_method_13_code
def yJ16_stringSize : MethodName := ⟨RJ16, "stringSize", "(I)I"⟩
def dkwJ16_stringSize_1 : List UInt8 := [164, 0, 7, 29, 27, 96, 172, 16, 10, 28, 104, 61, 132, 3, 1, 167, 255, 233, 16, 10, 27, 96, 172]
abbrev dktJ16_stringSize_1 : List UInt8 := dkwJ16_stringSize_1 ++ []
def dkwJ16_stringSize_0 : List UInt8 := [4, 60, 26, 155, 0, 8, 3, 60, 26, 116, 59, 16, 246, 61, 4, 62, 29, 16, 10, 162, 0, 23, 26, 28]
abbrev dktJ16_stringSize_0 : List UInt8 := dkwJ16_stringSize_0 ++ dktJ16_stringSize_1
theorem dksJ16_stringSize_0 : cJ16_stringSize.data.toList.drop 0 = dktJ16_stringSize_0 := by decide +kernel
theorem dksJ16_stringSize_1 : cJ16_stringSize.data.toList.drop 24 = dktJ16_stringSize_1 := dk_seg dksJ16_stringSize_0 24 rfl rfl
theorem dJ16_stringSize_0 : decode cJ16_stringSize 0 = .ok (.iconst 1, 1) := dk_4 (dk_at dksJ16_stringSize_0 0 rfl rfl)
theorem dJ16_stringSize_1 : decode cJ16_stringSize 1 = .ok (.istore_n 1, 1) := dk_60 (dk_at dksJ16_stringSize_0 1 rfl rfl)
theorem dJ16_stringSize_2 : decode cJ16_stringSize 2 = .ok (.iload_n 0, 1) := dk_26 (dk_at dksJ16_stringSize_0 2 rfl rfl)
theorem dJ16_stringSize_3 : decode cJ16_stringSize 3 = .ok (.ifCond .lt 8, 3) := dk_155 0 8 (dk_at dksJ16_stringSize_0 3 rfl rfl)
theorem dJ16_stringSize_6 : decode cJ16_stringSize 6 = .ok (.iconst 0, 1) := dk_3 (dk_at dksJ16_stringSize_0 6 rfl rfl)
theorem dJ16_stringSize_7 : decode cJ16_stringSize 7 = .ok (.istore_n 1, 1) := dk_60 (dk_at dksJ16_stringSize_0 7 rfl rfl)
theorem dJ16_stringSize_8 : decode cJ16_stringSize 8 = .ok (.iload_n 0, 1) := dk_26 (dk_at dksJ16_stringSize_0 8 rfl rfl)
theorem dJ16_stringSize_9 : decode cJ16_stringSize 9 = .ok (.ineg, 1) := dk_116 (dk_at dksJ16_stringSize_0 9 rfl rfl)
theorem dJ16_stringSize_10 : decode cJ16_stringSize 10 = .ok (.istore_n 0, 1) := dk_59 (dk_at dksJ16_stringSize_0 10 rfl rfl)
theorem dJ16_stringSize_11 : decode cJ16_stringSize 11 = .ok (.bipush (-10), 2) := dk_16 246 (dk_at dksJ16_stringSize_0 11 rfl rfl)
theorem dJ16_stringSize_13 : decode cJ16_stringSize 13 = .ok (.istore_n 2, 1) := dk_61 (dk_at dksJ16_stringSize_0 13 rfl rfl)
theorem dJ16_stringSize_14 : decode cJ16_stringSize 14 = .ok (.iconst 1, 1) := dk_4 (dk_at dksJ16_stringSize_0 14 rfl rfl)
theorem dJ16_stringSize_15 : decode cJ16_stringSize 15 = .ok (.istore_n 3, 1) := dk_62 (dk_at dksJ16_stringSize_0 15 rfl rfl)
theorem dJ16_stringSize_16 : decode cJ16_stringSize 16 = .ok (.iload_n 3, 1) := dk_29 (dk_at dksJ16_stringSize_0 16 rfl rfl)
theorem dJ16_stringSize_17 : decode cJ16_stringSize 17 = .ok (.bipush 10, 2) := dk_16 10 (dk_at dksJ16_stringSize_0 17 rfl rfl)
theorem dJ16_stringSize_19 : decode cJ16_stringSize 19 = .ok (.if_icmp .ge 23, 3) := dk_162 0 23 (dk_at dksJ16_stringSize_0 19 rfl rfl)
theorem dJ16_stringSize_22 : decode cJ16_stringSize 22 = .ok (.iload_n 0, 1) := dk_26 (dk_at dksJ16_stringSize_0 22 rfl rfl)
theorem dJ16_stringSize_23 : decode cJ16_stringSize 23 = .ok (.iload_n 2, 1) := dk_28 (dk_at dksJ16_stringSize_0 23 rfl rfl)
theorem dJ16_stringSize_24 : decode cJ16_stringSize 24 = .ok (.if_icmp .le 7, 3) := dk_164 0 7 (dk_at dksJ16_stringSize_1 0 rfl rfl)
theorem dJ16_stringSize_27 : decode cJ16_stringSize 27 = .ok (.iload_n 3, 1) := dk_29 (dk_at dksJ16_stringSize_1 3 rfl rfl)
theorem dJ16_stringSize_28 : decode cJ16_stringSize 28 = .ok (.iload_n 1, 1) := dk_27 (dk_at dksJ16_stringSize_1 4 rfl rfl)
theorem dJ16_stringSize_29 : decode cJ16_stringSize 29 = .ok (.iadd, 1) := dk_96 (dk_at dksJ16_stringSize_1 5 rfl rfl)
theorem dJ16_stringSize_30 : decode cJ16_stringSize 30 = .ok (.ireturn, 1) := dk_172 (dk_at dksJ16_stringSize_1 6 rfl rfl)
theorem dJ16_stringSize_31 : decode cJ16_stringSize 31 = .ok (.bipush 10, 2) := dk_16 10 (dk_at dksJ16_stringSize_1 7 rfl rfl)
theorem dJ16_stringSize_33 : decode cJ16_stringSize 33 = .ok (.iload_n 2, 1) := dk_28 (dk_at dksJ16_stringSize_1 9 rfl rfl)
theorem dJ16_stringSize_34 : decode cJ16_stringSize 34 = .ok (.imul, 1) := dk_104 (dk_at dksJ16_stringSize_1 10 rfl rfl)
theorem dJ16_stringSize_35 : decode cJ16_stringSize 35 = .ok (.istore_n 2, 1) := dk_61 (dk_at dksJ16_stringSize_1 11 rfl rfl)
theorem dJ16_stringSize_36 : decode cJ16_stringSize 36 = .ok (.iinc 3 1, 3) := dk_132 3 1 (dk_at dksJ16_stringSize_1 12 rfl rfl)
theorem dJ16_stringSize_39 : decode cJ16_stringSize 39 = .ok (.goto (-23), 3) := dk_167 255 233 (dk_at dksJ16_stringSize_1 15 rfl rfl)
theorem dJ16_stringSize_42 : decode cJ16_stringSize 42 = .ok (.bipush 10, 2) := dk_16 10 (dk_at dksJ16_stringSize_1 18 rfl rfl)
theorem dJ16_stringSize_44 : decode cJ16_stringSize 44 = .ok (.iload_n 1, 1) := dk_27 (dk_at dksJ16_stringSize_1 20 rfl rfl)
theorem dJ16_stringSize_45 : decode cJ16_stringSize 45 = .ok (.iadd, 1) := dk_96 (dk_at dksJ16_stringSize_1 21 rfl rfl)
theorem dJ16_stringSize_46 : decode cJ16_stringSize 46 = .ok (.ireturn, 1) := dk_172 (dk_at dksJ16_stringSize_1 22 rfl rfl)
abbrev cJ16_getChars : ByteArray := prog_30_method_12_code
def yJ16_getChars : MethodName := ⟨RJ16, "getChars", "(II[B)I"⟩
def dkwJ16_getChars_5 : List UInt8 := [16, 45, 84, 21, 5, 172]
abbrev dktJ16_getChars_5 : List UInt8 := dkwJ16_getChars_5 ++ []
def dkwJ16_getChars_4 : List UInt8 := [132, 5, 255, 21, 5, 178, 0, 87, 26, 116, 51, 84, 21, 6, 153, 0, 12, 44, 132, 5, 255, 21, 5]
abbrev dktJ16_getChars_4 : List UInt8 := dkwJ16_getChars_4 ++ dktJ16_getChars_5
def dkwJ16_getChars_3 : List UInt8 := [167, 255, 209, 44, 132, 5, 255, 21, 5, 178, 0, 83, 26, 116, 51, 84, 26, 16, 247, 162, 0, 16, 44]
abbrev dktJ16_getChars_3 : List UInt8 := dkwJ16_getChars_3 ++ dktJ16_getChars_4
def dkwJ16_getChars_2 : List UInt8 := [21, 5, 178, 0, 83, 21, 4, 51, 84, 44, 132, 5, 255, 21, 5, 178, 0, 87, 21, 4, 51, 84]
abbrev dktJ16_getChars_2 : List UInt8 := dkwJ16_getChars_2 ++ dktJ16_getChars_3
def dkwJ16_getChars_1 : List UInt8 := [16, 156, 163, 0, 47, 26, 16, 100, 108, 62, 29, 16, 100, 104, 26, 100, 54, 4, 29, 59, 44, 132, 5, 255]
abbrev dktJ16_getChars_1 : List UInt8 := dkwJ16_getChars_1 ++ dktJ16_getChars_2
def dkwJ16_getChars_0 : List UInt8 := [27, 54, 5, 26, 156, 0, 7, 4, 167, 0, 4, 3, 54, 6, 21, 6, 154, 0, 6, 26, 116, 59, 26]
abbrev dktJ16_getChars_0 : List UInt8 := dkwJ16_getChars_0 ++ dktJ16_getChars_1
theorem dksJ16_getChars_0 : cJ16_getChars.data.toList.drop 0 = dktJ16_getChars_0 := by decide +kernel
theorem dksJ16_getChars_1 : cJ16_getChars.data.toList.drop 23 = dktJ16_getChars_1 := dk_seg dksJ16_getChars_0 23 rfl rfl
theorem dksJ16_getChars_2 : cJ16_getChars.data.toList.drop 47 = dktJ16_getChars_2 := dk_seg dksJ16_getChars_1 24 rfl rfl
theorem dksJ16_getChars_3 : cJ16_getChars.data.toList.drop 69 = dktJ16_getChars_3 := dk_seg dksJ16_getChars_2 22 rfl rfl
theorem dksJ16_getChars_4 : cJ16_getChars.data.toList.drop 92 = dktJ16_getChars_4 := dk_seg dksJ16_getChars_3 23 rfl rfl
theorem dksJ16_getChars_5 : cJ16_getChars.data.toList.drop 115 = dktJ16_getChars_5 := dk_seg dksJ16_getChars_4 23 rfl rfl
theorem dJ16_getChars_0 : decode cJ16_getChars 0 = .ok (.iload_n 1, 1) := dk_27 (dk_at dksJ16_getChars_0 0 rfl rfl)
theorem dJ16_getChars_1 : decode cJ16_getChars 1 = .ok (.istore 5, 2) := dk_54 5 (dk_at dksJ16_getChars_0 1 rfl rfl)
theorem dJ16_getChars_3 : decode cJ16_getChars 3 = .ok (.iload_n 0, 1) := dk_26 (dk_at dksJ16_getChars_0 3 rfl rfl)
theorem dJ16_getChars_4 : decode cJ16_getChars 4 = .ok (.ifCond .ge 7, 3) := dk_156 0 7 (dk_at dksJ16_getChars_0 4 rfl rfl)
theorem dJ16_getChars_7 : decode cJ16_getChars 7 = .ok (.iconst 1, 1) := dk_4 (dk_at dksJ16_getChars_0 7 rfl rfl)
theorem dJ16_getChars_8 : decode cJ16_getChars 8 = .ok (.goto 4, 3) := dk_167 0 4 (dk_at dksJ16_getChars_0 8 rfl rfl)
theorem dJ16_getChars_11 : decode cJ16_getChars 11 = .ok (.iconst 0, 1) := dk_3 (dk_at dksJ16_getChars_0 11 rfl rfl)
theorem dJ16_getChars_12 : decode cJ16_getChars 12 = .ok (.istore 6, 2) := dk_54 6 (dk_at dksJ16_getChars_0 12 rfl rfl)
theorem dJ16_getChars_14 : decode cJ16_getChars 14 = .ok (.iload 6, 2) := dk_21 6 (dk_at dksJ16_getChars_0 14 rfl rfl)
theorem dJ16_getChars_16 : decode cJ16_getChars 16 = .ok (.ifCond .ne 6, 3) := dk_154 0 6 (dk_at dksJ16_getChars_0 16 rfl rfl)
theorem dJ16_getChars_19 : decode cJ16_getChars 19 = .ok (.iload_n 0, 1) := dk_26 (dk_at dksJ16_getChars_0 19 rfl rfl)
theorem dJ16_getChars_20 : decode cJ16_getChars 20 = .ok (.ineg, 1) := dk_116 (dk_at dksJ16_getChars_0 20 rfl rfl)
theorem dJ16_getChars_21 : decode cJ16_getChars 21 = .ok (.istore_n 0, 1) := dk_59 (dk_at dksJ16_getChars_0 21 rfl rfl)
theorem dJ16_getChars_22 : decode cJ16_getChars 22 = .ok (.iload_n 0, 1) := dk_26 (dk_at dksJ16_getChars_0 22 rfl rfl)
theorem dJ16_getChars_23 : decode cJ16_getChars 23 = .ok (.bipush (-100), 2) := dk_16 156 (dk_at dksJ16_getChars_1 0 rfl rfl)
theorem dJ16_getChars_25 : decode cJ16_getChars 25 = .ok (.if_icmp .gt 47, 3) := dk_163 0 47 (dk_at dksJ16_getChars_1 2 rfl rfl)
theorem dJ16_getChars_28 : decode cJ16_getChars 28 = .ok (.iload_n 0, 1) := dk_26 (dk_at dksJ16_getChars_1 5 rfl rfl)
theorem dJ16_getChars_29 : decode cJ16_getChars 29 = .ok (.bipush 100, 2) := dk_16 100 (dk_at dksJ16_getChars_1 6 rfl rfl)
theorem dJ16_getChars_31 : decode cJ16_getChars 31 = .ok (.idiv, 1) := dk_108 (dk_at dksJ16_getChars_1 8 rfl rfl)
theorem dJ16_getChars_32 : decode cJ16_getChars 32 = .ok (.istore_n 3, 1) := dk_62 (dk_at dksJ16_getChars_1 9 rfl rfl)
theorem dJ16_getChars_33 : decode cJ16_getChars 33 = .ok (.iload_n 3, 1) := dk_29 (dk_at dksJ16_getChars_1 10 rfl rfl)
theorem dJ16_getChars_34 : decode cJ16_getChars 34 = .ok (.bipush 100, 2) := dk_16 100 (dk_at dksJ16_getChars_1 11 rfl rfl)
theorem dJ16_getChars_36 : decode cJ16_getChars 36 = .ok (.imul, 1) := dk_104 (dk_at dksJ16_getChars_1 13 rfl rfl)
theorem dJ16_getChars_37 : decode cJ16_getChars 37 = .ok (.iload_n 0, 1) := dk_26 (dk_at dksJ16_getChars_1 14 rfl rfl)
theorem dJ16_getChars_38 : decode cJ16_getChars 38 = .ok (.isub, 1) := dk_100 (dk_at dksJ16_getChars_1 15 rfl rfl)
theorem dJ16_getChars_39 : decode cJ16_getChars 39 = .ok (.istore 4, 2) := dk_54 4 (dk_at dksJ16_getChars_1 16 rfl rfl)
theorem dJ16_getChars_41 : decode cJ16_getChars 41 = .ok (.iload_n 3, 1) := dk_29 (dk_at dksJ16_getChars_1 18 rfl rfl)
theorem dJ16_getChars_42 : decode cJ16_getChars 42 = .ok (.istore_n 0, 1) := dk_59 (dk_at dksJ16_getChars_1 19 rfl rfl)
theorem dJ16_getChars_43 : decode cJ16_getChars 43 = .ok (.aload_n 2, 1) := dk_44 (dk_at dksJ16_getChars_1 20 rfl rfl)
theorem dJ16_getChars_44 : decode cJ16_getChars 44 = .ok (.iinc 5 (-1), 3) := dk_132 5 255 (dk_at dksJ16_getChars_1 21 rfl rfl)
theorem dJ16_getChars_47 : decode cJ16_getChars 47 = .ok (.iload 5, 2) := dk_21 5 (dk_at dksJ16_getChars_2 0 rfl rfl)
theorem dJ16_getChars_49 : decode cJ16_getChars 49 = .ok (.getstatic 83, 3) := dk_178 0 83 (dk_at dksJ16_getChars_2 2 rfl rfl)
theorem dJ16_getChars_52 : decode cJ16_getChars 52 = .ok (.iload 4, 2) := dk_21 4 (dk_at dksJ16_getChars_2 5 rfl rfl)
theorem dJ16_getChars_54 : decode cJ16_getChars 54 = .ok (.baload, 1) := dk_51 (dk_at dksJ16_getChars_2 7 rfl rfl)
theorem dJ16_getChars_55 : decode cJ16_getChars 55 = .ok (.bastore, 1) := dk_84 (dk_at dksJ16_getChars_2 8 rfl rfl)
theorem dJ16_getChars_56 : decode cJ16_getChars 56 = .ok (.aload_n 2, 1) := dk_44 (dk_at dksJ16_getChars_2 9 rfl rfl)
theorem dJ16_getChars_57 : decode cJ16_getChars 57 = .ok (.iinc 5 (-1), 3) := dk_132 5 255 (dk_at dksJ16_getChars_2 10 rfl rfl)
theorem dJ16_getChars_60 : decode cJ16_getChars 60 = .ok (.iload 5, 2) := dk_21 5 (dk_at dksJ16_getChars_2 13 rfl rfl)
theorem dJ16_getChars_62 : decode cJ16_getChars 62 = .ok (.getstatic 87, 3) := dk_178 0 87 (dk_at dksJ16_getChars_2 15 rfl rfl)
theorem dJ16_getChars_65 : decode cJ16_getChars 65 = .ok (.iload 4, 2) := dk_21 4 (dk_at dksJ16_getChars_2 18 rfl rfl)
theorem dJ16_getChars_67 : decode cJ16_getChars 67 = .ok (.baload, 1) := dk_51 (dk_at dksJ16_getChars_2 20 rfl rfl)
theorem dJ16_getChars_68 : decode cJ16_getChars 68 = .ok (.bastore, 1) := dk_84 (dk_at dksJ16_getChars_2 21 rfl rfl)
theorem dJ16_getChars_69 : decode cJ16_getChars 69 = .ok (.goto (-47), 3) := dk_167 255 209 (dk_at dksJ16_getChars_3 0 rfl rfl)
theorem dJ16_getChars_72 : decode cJ16_getChars 72 = .ok (.aload_n 2, 1) := dk_44 (dk_at dksJ16_getChars_3 3 rfl rfl)
theorem dJ16_getChars_73 : decode cJ16_getChars 73 = .ok (.iinc 5 (-1), 3) := dk_132 5 255 (dk_at dksJ16_getChars_3 4 rfl rfl)
theorem dJ16_getChars_76 : decode cJ16_getChars 76 = .ok (.iload 5, 2) := dk_21 5 (dk_at dksJ16_getChars_3 7 rfl rfl)
theorem dJ16_getChars_78 : decode cJ16_getChars 78 = .ok (.getstatic 83, 3) := dk_178 0 83 (dk_at dksJ16_getChars_3 9 rfl rfl)
theorem dJ16_getChars_81 : decode cJ16_getChars 81 = .ok (.iload_n 0, 1) := dk_26 (dk_at dksJ16_getChars_3 12 rfl rfl)
theorem dJ16_getChars_82 : decode cJ16_getChars 82 = .ok (.ineg, 1) := dk_116 (dk_at dksJ16_getChars_3 13 rfl rfl)
theorem dJ16_getChars_83 : decode cJ16_getChars 83 = .ok (.baload, 1) := dk_51 (dk_at dksJ16_getChars_3 14 rfl rfl)
theorem dJ16_getChars_84 : decode cJ16_getChars 84 = .ok (.bastore, 1) := dk_84 (dk_at dksJ16_getChars_3 15 rfl rfl)
theorem dJ16_getChars_85 : decode cJ16_getChars 85 = .ok (.iload_n 0, 1) := dk_26 (dk_at dksJ16_getChars_3 16 rfl rfl)
theorem dJ16_getChars_86 : decode cJ16_getChars 86 = .ok (.bipush (-9), 2) := dk_16 247 (dk_at dksJ16_getChars_3 17 rfl rfl)
theorem dJ16_getChars_88 : decode cJ16_getChars 88 = .ok (.if_icmp .ge 16, 3) := dk_162 0 16 (dk_at dksJ16_getChars_3 19 rfl rfl)
theorem dJ16_getChars_91 : decode cJ16_getChars 91 = .ok (.aload_n 2, 1) := dk_44 (dk_at dksJ16_getChars_3 22 rfl rfl)
theorem dJ16_getChars_92 : decode cJ16_getChars 92 = .ok (.iinc 5 (-1), 3) := dk_132 5 255 (dk_at dksJ16_getChars_4 0 rfl rfl)
theorem dJ16_getChars_95 : decode cJ16_getChars 95 = .ok (.iload 5, 2) := dk_21 5 (dk_at dksJ16_getChars_4 3 rfl rfl)
theorem dJ16_getChars_97 : decode cJ16_getChars 97 = .ok (.getstatic 87, 3) := dk_178 0 87 (dk_at dksJ16_getChars_4 5 rfl rfl)
theorem dJ16_getChars_100 : decode cJ16_getChars 100 = .ok (.iload_n 0, 1) := dk_26 (dk_at dksJ16_getChars_4 8 rfl rfl)
theorem dJ16_getChars_101 : decode cJ16_getChars 101 = .ok (.ineg, 1) := dk_116 (dk_at dksJ16_getChars_4 9 rfl rfl)
theorem dJ16_getChars_102 : decode cJ16_getChars 102 = .ok (.baload, 1) := dk_51 (dk_at dksJ16_getChars_4 10 rfl rfl)
theorem dJ16_getChars_103 : decode cJ16_getChars 103 = .ok (.bastore, 1) := dk_84 (dk_at dksJ16_getChars_4 11 rfl rfl)
theorem dJ16_getChars_104 : decode cJ16_getChars 104 = .ok (.iload 6, 2) := dk_21 6 (dk_at dksJ16_getChars_4 12 rfl rfl)
theorem dJ16_getChars_106 : decode cJ16_getChars 106 = .ok (.ifCond .eq 12, 3) := dk_153 0 12 (dk_at dksJ16_getChars_4 14 rfl rfl)
theorem dJ16_getChars_109 : decode cJ16_getChars 109 = .ok (.aload_n 2, 1) := dk_44 (dk_at dksJ16_getChars_4 17 rfl rfl)
theorem dJ16_getChars_110 : decode cJ16_getChars 110 = .ok (.iinc 5 (-1), 3) := dk_132 5 255 (dk_at dksJ16_getChars_4 18 rfl rfl)
theorem dJ16_getChars_113 : decode cJ16_getChars 113 = .ok (.iload 5, 2) := dk_21 5 (dk_at dksJ16_getChars_4 21 rfl rfl)
theorem dJ16_getChars_115 : decode cJ16_getChars 115 = .ok (.bipush 45, 2) := dk_16 45 (dk_at dksJ16_getChars_5 0 rfl rfl)
theorem dJ16_getChars_117 : decode cJ16_getChars 117 = .ok (.bastore, 1) := dk_84 (dk_at dksJ16_getChars_5 2 rfl rfl)
theorem dJ16_getChars_118 : decode cJ16_getChars 118 = .ok (.iload 5, 2) := dk_21 5 (dk_at dksJ16_getChars_5 3 rfl rfl)
theorem dJ16_getChars_120 : decode cJ16_getChars 120 = .ok (.ireturn, 1) := dk_172 (dk_at dksJ16_getChars_5 5 rfl rfl)
abbrev cJ16_bitCount : ByteArray := prog_30_method_49_code
def yJ16_bitCount : MethodName := ⟨RJ16, "bitCount", "(I)I"⟩
def dkwJ16_bitCount_2 : List UInt8 := [26, 16, 63, 126, 172]
abbrev dktJ16_bitCount_2 : List UInt8 := dkwJ16_bitCount_2 ++ []
def dkwJ16_bitCount_1 : List UInt8 := [26, 26, 7, 124, 96, 19, 1, 11, 126, 59, 26, 26, 16, 8, 124, 96, 59, 26, 26, 16, 16, 124, 96, 59]
abbrev dktJ16_bitCount_1 : List UInt8 := dkwJ16_bitCount_1 ++ dktJ16_bitCount_2
def dkwJ16_bitCount_0 : List UInt8 := [26, 26, 4, 124, 19, 1, 9, 126, 100, 59, 26, 19, 1, 10, 126, 26, 5, 124, 19, 1, 10, 126, 96, 59]
abbrev dktJ16_bitCount_0 : List UInt8 := dkwJ16_bitCount_0 ++ dktJ16_bitCount_1
theorem dksJ16_bitCount_0 : cJ16_bitCount.data.toList.drop 0 = dktJ16_bitCount_0 := by decide +kernel
theorem dksJ16_bitCount_1 : cJ16_bitCount.data.toList.drop 24 = dktJ16_bitCount_1 := dk_seg dksJ16_bitCount_0 24 rfl rfl
theorem dksJ16_bitCount_2 : cJ16_bitCount.data.toList.drop 48 = dktJ16_bitCount_2 := dk_seg dksJ16_bitCount_1 24 rfl rfl
theorem dJ16_bitCount_0 : decode cJ16_bitCount 0 = .ok (.iload_n 0, 1) := dk_26 (dk_at dksJ16_bitCount_0 0 rfl rfl)
theorem dJ16_bitCount_1 : decode cJ16_bitCount 1 = .ok (.iload_n 0, 1) := dk_26 (dk_at dksJ16_bitCount_0 1 rfl rfl)
theorem dJ16_bitCount_2 : decode cJ16_bitCount 2 = .ok (.iconst 1, 1) := dk_4 (dk_at dksJ16_bitCount_0 2 rfl rfl)
theorem dJ16_bitCount_3 : decode cJ16_bitCount 3 = .ok (.iushr, 1) := dk_124 (dk_at dksJ16_bitCount_0 3 rfl rfl)
theorem dJ16_bitCount_4 : decode cJ16_bitCount 4 = .ok (.ldc_w 265, 3) := dk_19 1 9 (dk_at dksJ16_bitCount_0 4 rfl rfl)
theorem dJ16_bitCount_7 : decode cJ16_bitCount 7 = .ok (.iand, 1) := dk_126 (dk_at dksJ16_bitCount_0 7 rfl rfl)
theorem dJ16_bitCount_8 : decode cJ16_bitCount 8 = .ok (.isub, 1) := dk_100 (dk_at dksJ16_bitCount_0 8 rfl rfl)
theorem dJ16_bitCount_9 : decode cJ16_bitCount 9 = .ok (.istore_n 0, 1) := dk_59 (dk_at dksJ16_bitCount_0 9 rfl rfl)
theorem dJ16_bitCount_10 : decode cJ16_bitCount 10 = .ok (.iload_n 0, 1) := dk_26 (dk_at dksJ16_bitCount_0 10 rfl rfl)
theorem dJ16_bitCount_11 : decode cJ16_bitCount 11 = .ok (.ldc_w 266, 3) := dk_19 1 10 (dk_at dksJ16_bitCount_0 11 rfl rfl)
theorem dJ16_bitCount_14 : decode cJ16_bitCount 14 = .ok (.iand, 1) := dk_126 (dk_at dksJ16_bitCount_0 14 rfl rfl)
theorem dJ16_bitCount_15 : decode cJ16_bitCount 15 = .ok (.iload_n 0, 1) := dk_26 (dk_at dksJ16_bitCount_0 15 rfl rfl)
theorem dJ16_bitCount_16 : decode cJ16_bitCount 16 = .ok (.iconst 2, 1) := dk_5 (dk_at dksJ16_bitCount_0 16 rfl rfl)
theorem dJ16_bitCount_17 : decode cJ16_bitCount 17 = .ok (.iushr, 1) := dk_124 (dk_at dksJ16_bitCount_0 17 rfl rfl)
theorem dJ16_bitCount_18 : decode cJ16_bitCount 18 = .ok (.ldc_w 266, 3) := dk_19 1 10 (dk_at dksJ16_bitCount_0 18 rfl rfl)
theorem dJ16_bitCount_21 : decode cJ16_bitCount 21 = .ok (.iand, 1) := dk_126 (dk_at dksJ16_bitCount_0 21 rfl rfl)
theorem dJ16_bitCount_22 : decode cJ16_bitCount 22 = .ok (.iadd, 1) := dk_96 (dk_at dksJ16_bitCount_0 22 rfl rfl)
theorem dJ16_bitCount_23 : decode cJ16_bitCount 23 = .ok (.istore_n 0, 1) := dk_59 (dk_at dksJ16_bitCount_0 23 rfl rfl)
theorem dJ16_bitCount_24 : decode cJ16_bitCount 24 = .ok (.iload_n 0, 1) := dk_26 (dk_at dksJ16_bitCount_1 0 rfl rfl)
theorem dJ16_bitCount_25 : decode cJ16_bitCount 25 = .ok (.iload_n 0, 1) := dk_26 (dk_at dksJ16_bitCount_1 1 rfl rfl)
theorem dJ16_bitCount_26 : decode cJ16_bitCount 26 = .ok (.iconst 4, 1) := dk_7 (dk_at dksJ16_bitCount_1 2 rfl rfl)
theorem dJ16_bitCount_27 : decode cJ16_bitCount 27 = .ok (.iushr, 1) := dk_124 (dk_at dksJ16_bitCount_1 3 rfl rfl)
theorem dJ16_bitCount_28 : decode cJ16_bitCount 28 = .ok (.iadd, 1) := dk_96 (dk_at dksJ16_bitCount_1 4 rfl rfl)
theorem dJ16_bitCount_29 : decode cJ16_bitCount 29 = .ok (.ldc_w 267, 3) := dk_19 1 11 (dk_at dksJ16_bitCount_1 5 rfl rfl)
theorem dJ16_bitCount_32 : decode cJ16_bitCount 32 = .ok (.iand, 1) := dk_126 (dk_at dksJ16_bitCount_1 8 rfl rfl)
theorem dJ16_bitCount_33 : decode cJ16_bitCount 33 = .ok (.istore_n 0, 1) := dk_59 (dk_at dksJ16_bitCount_1 9 rfl rfl)
theorem dJ16_bitCount_34 : decode cJ16_bitCount 34 = .ok (.iload_n 0, 1) := dk_26 (dk_at dksJ16_bitCount_1 10 rfl rfl)
theorem dJ16_bitCount_35 : decode cJ16_bitCount 35 = .ok (.iload_n 0, 1) := dk_26 (dk_at dksJ16_bitCount_1 11 rfl rfl)
theorem dJ16_bitCount_36 : decode cJ16_bitCount 36 = .ok (.bipush 8, 2) := dk_16 8 (dk_at dksJ16_bitCount_1 12 rfl rfl)
theorem dJ16_bitCount_38 : decode cJ16_bitCount 38 = .ok (.iushr, 1) := dk_124 (dk_at dksJ16_bitCount_1 14 rfl rfl)
theorem dJ16_bitCount_39 : decode cJ16_bitCount 39 = .ok (.iadd, 1) := dk_96 (dk_at dksJ16_bitCount_1 15 rfl rfl)
theorem dJ16_bitCount_40 : decode cJ16_bitCount 40 = .ok (.istore_n 0, 1) := dk_59 (dk_at dksJ16_bitCount_1 16 rfl rfl)
theorem dJ16_bitCount_41 : decode cJ16_bitCount 41 = .ok (.iload_n 0, 1) := dk_26 (dk_at dksJ16_bitCount_1 17 rfl rfl)
theorem dJ16_bitCount_42 : decode cJ16_bitCount 42 = .ok (.iload_n 0, 1) := dk_26 (dk_at dksJ16_bitCount_1 18 rfl rfl)
theorem dJ16_bitCount_43 : decode cJ16_bitCount 43 = .ok (.bipush 16, 2) := dk_16 16 (dk_at dksJ16_bitCount_1 19 rfl rfl)
theorem dJ16_bitCount_45 : decode cJ16_bitCount 45 = .ok (.iushr, 1) := dk_124 (dk_at dksJ16_bitCount_1 21 rfl rfl)
theorem dJ16_bitCount_46 : decode cJ16_bitCount 46 = .ok (.iadd, 1) := dk_96 (dk_at dksJ16_bitCount_1 22 rfl rfl)
theorem dJ16_bitCount_47 : decode cJ16_bitCount 47 = .ok (.istore_n 0, 1) := dk_59 (dk_at dksJ16_bitCount_1 23 rfl rfl)
theorem dJ16_bitCount_48 : decode cJ16_bitCount 48 = .ok (.iload_n 0, 1) := dk_26 (dk_at dksJ16_bitCount_2 0 rfl rfl)
theorem dJ16_bitCount_49 : decode cJ16_bitCount 49 = .ok (.bipush 63, 2) := dk_16 63 (dk_at dksJ16_bitCount_2 1 rfl rfl)
theorem dJ16_bitCount_51 : decode cJ16_bitCount 51 = .ok (.iand, 1) := dk_126 (dk_at dksJ16_bitCount_2 3 rfl rfl)
theorem dJ16_bitCount_52 : decode cJ16_bitCount 52 = .ok (.ireturn, 1) := dk_172 (dk_at dksJ16_bitCount_2 4 rfl rfl)
abbrev cJ16_numberOfTrailingZeros : ByteArray := prog_30_method_48_code
def yJ16_numberOfTrailingZeros : MethodName := ⟨RJ16, "numberOfTrailingZeros", "(I)I"⟩
def dkwJ16_numberOfTrailingZeros_3 : List UInt8 := [5, 124, 59, 27, 26, 4, 124, 96, 172]
abbrev dktJ16_numberOfTrailingZeros_3 : List UInt8 := dkwJ16_numberOfTrailingZeros_3 ++ []
def dkwJ16_numberOfTrailingZeros_2 : List UInt8 := [124, 59, 26, 16, 16, 164, 0, 10, 132, 1, 4, 26, 7, 124, 59, 26, 7, 164, 0, 10, 132, 1, 2, 26]
abbrev dktJ16_numberOfTrailingZeros_2 : List UInt8 := dkwJ16_numberOfTrailingZeros_2 ++ dktJ16_numberOfTrailingZeros_3
def dkwJ16_numberOfTrailingZeros_1 : List UInt8 := [164, 0, 11, 132, 1, 16, 26, 16, 16, 124, 59, 26, 17, 1, 0, 164, 0, 11, 132, 1, 8, 26, 16, 8]
abbrev dktJ16_numberOfTrailingZeros_1 : List UInt8 := dkwJ16_numberOfTrailingZeros_1 ++ dktJ16_numberOfTrailingZeros_2
def dkwJ16_numberOfTrailingZeros_0 : List UInt8 := [26, 2, 130, 26, 4, 100, 126, 59, 26, 157, 0, 8, 26, 16, 32, 126, 172, 4, 60, 26, 19, 1, 8]
abbrev dktJ16_numberOfTrailingZeros_0 : List UInt8 := dkwJ16_numberOfTrailingZeros_0 ++ dktJ16_numberOfTrailingZeros_1
theorem dksJ16_numberOfTrailingZeros_0 : cJ16_numberOfTrailingZeros.data.toList.drop 0 = dktJ16_numberOfTrailingZeros_0 := by decide +kernel
theorem dksJ16_numberOfTrailingZeros_1 : cJ16_numberOfTrailingZeros.data.toList.drop 23 = dktJ16_numberOfTrailingZeros_1 := dk_seg dksJ16_numberOfTrailingZeros_0 23 rfl rfl
theorem dksJ16_numberOfTrailingZeros_2 : cJ16_numberOfTrailingZeros.data.toList.drop 47 = dktJ16_numberOfTrailingZeros_2 := dk_seg dksJ16_numberOfTrailingZeros_1 24 rfl rfl
theorem dksJ16_numberOfTrailingZeros_3 : cJ16_numberOfTrailingZeros.data.toList.drop 71 = dktJ16_numberOfTrailingZeros_3 := dk_seg dksJ16_numberOfTrailingZeros_2 24 rfl rfl
theorem dJ16_numberOfTrailingZeros_0 : decode cJ16_numberOfTrailingZeros 0 = .ok (.iload_n 0, 1) := dk_26 (dk_at dksJ16_numberOfTrailingZeros_0 0 rfl rfl)
theorem dJ16_numberOfTrailingZeros_1 : decode cJ16_numberOfTrailingZeros 1 = .ok (.iconst (-1), 1) := dk_2 (dk_at dksJ16_numberOfTrailingZeros_0 1 rfl rfl)
theorem dJ16_numberOfTrailingZeros_2 : decode cJ16_numberOfTrailingZeros 2 = .ok (.ixor, 1) := dk_130 (dk_at dksJ16_numberOfTrailingZeros_0 2 rfl rfl)
theorem dJ16_numberOfTrailingZeros_3 : decode cJ16_numberOfTrailingZeros 3 = .ok (.iload_n 0, 1) := dk_26 (dk_at dksJ16_numberOfTrailingZeros_0 3 rfl rfl)
theorem dJ16_numberOfTrailingZeros_4 : decode cJ16_numberOfTrailingZeros 4 = .ok (.iconst 1, 1) := dk_4 (dk_at dksJ16_numberOfTrailingZeros_0 4 rfl rfl)
theorem dJ16_numberOfTrailingZeros_5 : decode cJ16_numberOfTrailingZeros 5 = .ok (.isub, 1) := dk_100 (dk_at dksJ16_numberOfTrailingZeros_0 5 rfl rfl)
theorem dJ16_numberOfTrailingZeros_6 : decode cJ16_numberOfTrailingZeros 6 = .ok (.iand, 1) := dk_126 (dk_at dksJ16_numberOfTrailingZeros_0 6 rfl rfl)
theorem dJ16_numberOfTrailingZeros_7 : decode cJ16_numberOfTrailingZeros 7 = .ok (.istore_n 0, 1) := dk_59 (dk_at dksJ16_numberOfTrailingZeros_0 7 rfl rfl)
theorem dJ16_numberOfTrailingZeros_8 : decode cJ16_numberOfTrailingZeros 8 = .ok (.iload_n 0, 1) := dk_26 (dk_at dksJ16_numberOfTrailingZeros_0 8 rfl rfl)
theorem dJ16_numberOfTrailingZeros_9 : decode cJ16_numberOfTrailingZeros 9 = .ok (.ifCond .gt 8, 3) := dk_157 0 8 (dk_at dksJ16_numberOfTrailingZeros_0 9 rfl rfl)
theorem dJ16_numberOfTrailingZeros_12 : decode cJ16_numberOfTrailingZeros 12 = .ok (.iload_n 0, 1) := dk_26 (dk_at dksJ16_numberOfTrailingZeros_0 12 rfl rfl)
theorem dJ16_numberOfTrailingZeros_13 : decode cJ16_numberOfTrailingZeros 13 = .ok (.bipush 32, 2) := dk_16 32 (dk_at dksJ16_numberOfTrailingZeros_0 13 rfl rfl)
theorem dJ16_numberOfTrailingZeros_15 : decode cJ16_numberOfTrailingZeros 15 = .ok (.iand, 1) := dk_126 (dk_at dksJ16_numberOfTrailingZeros_0 15 rfl rfl)
theorem dJ16_numberOfTrailingZeros_16 : decode cJ16_numberOfTrailingZeros 16 = .ok (.ireturn, 1) := dk_172 (dk_at dksJ16_numberOfTrailingZeros_0 16 rfl rfl)
theorem dJ16_numberOfTrailingZeros_17 : decode cJ16_numberOfTrailingZeros 17 = .ok (.iconst 1, 1) := dk_4 (dk_at dksJ16_numberOfTrailingZeros_0 17 rfl rfl)
theorem dJ16_numberOfTrailingZeros_18 : decode cJ16_numberOfTrailingZeros 18 = .ok (.istore_n 1, 1) := dk_60 (dk_at dksJ16_numberOfTrailingZeros_0 18 rfl rfl)
theorem dJ16_numberOfTrailingZeros_19 : decode cJ16_numberOfTrailingZeros 19 = .ok (.iload_n 0, 1) := dk_26 (dk_at dksJ16_numberOfTrailingZeros_0 19 rfl rfl)
theorem dJ16_numberOfTrailingZeros_20 : decode cJ16_numberOfTrailingZeros 20 = .ok (.ldc_w 264, 3) := dk_19 1 8 (dk_at dksJ16_numberOfTrailingZeros_0 20 rfl rfl)
theorem dJ16_numberOfTrailingZeros_23 : decode cJ16_numberOfTrailingZeros 23 = .ok (.if_icmp .le 11, 3) := dk_164 0 11 (dk_at dksJ16_numberOfTrailingZeros_1 0 rfl rfl)
theorem dJ16_numberOfTrailingZeros_26 : decode cJ16_numberOfTrailingZeros 26 = .ok (.iinc 1 16, 3) := dk_132 1 16 (dk_at dksJ16_numberOfTrailingZeros_1 3 rfl rfl)
theorem dJ16_numberOfTrailingZeros_29 : decode cJ16_numberOfTrailingZeros 29 = .ok (.iload_n 0, 1) := dk_26 (dk_at dksJ16_numberOfTrailingZeros_1 6 rfl rfl)
theorem dJ16_numberOfTrailingZeros_30 : decode cJ16_numberOfTrailingZeros 30 = .ok (.bipush 16, 2) := dk_16 16 (dk_at dksJ16_numberOfTrailingZeros_1 7 rfl rfl)
theorem dJ16_numberOfTrailingZeros_32 : decode cJ16_numberOfTrailingZeros 32 = .ok (.iushr, 1) := dk_124 (dk_at dksJ16_numberOfTrailingZeros_1 9 rfl rfl)
theorem dJ16_numberOfTrailingZeros_33 : decode cJ16_numberOfTrailingZeros 33 = .ok (.istore_n 0, 1) := dk_59 (dk_at dksJ16_numberOfTrailingZeros_1 10 rfl rfl)
theorem dJ16_numberOfTrailingZeros_34 : decode cJ16_numberOfTrailingZeros 34 = .ok (.iload_n 0, 1) := dk_26 (dk_at dksJ16_numberOfTrailingZeros_1 11 rfl rfl)
theorem dJ16_numberOfTrailingZeros_35 : decode cJ16_numberOfTrailingZeros 35 = .ok (.sipush 256, 3) := dk_17 1 0 (dk_at dksJ16_numberOfTrailingZeros_1 12 rfl rfl)
theorem dJ16_numberOfTrailingZeros_38 : decode cJ16_numberOfTrailingZeros 38 = .ok (.if_icmp .le 11, 3) := dk_164 0 11 (dk_at dksJ16_numberOfTrailingZeros_1 15 rfl rfl)
theorem dJ16_numberOfTrailingZeros_41 : decode cJ16_numberOfTrailingZeros 41 = .ok (.iinc 1 8, 3) := dk_132 1 8 (dk_at dksJ16_numberOfTrailingZeros_1 18 rfl rfl)
theorem dJ16_numberOfTrailingZeros_44 : decode cJ16_numberOfTrailingZeros 44 = .ok (.iload_n 0, 1) := dk_26 (dk_at dksJ16_numberOfTrailingZeros_1 21 rfl rfl)
theorem dJ16_numberOfTrailingZeros_45 : decode cJ16_numberOfTrailingZeros 45 = .ok (.bipush 8, 2) := dk_16 8 (dk_at dksJ16_numberOfTrailingZeros_1 22 rfl rfl)
theorem dJ16_numberOfTrailingZeros_47 : decode cJ16_numberOfTrailingZeros 47 = .ok (.iushr, 1) := dk_124 (dk_at dksJ16_numberOfTrailingZeros_2 0 rfl rfl)
theorem dJ16_numberOfTrailingZeros_48 : decode cJ16_numberOfTrailingZeros 48 = .ok (.istore_n 0, 1) := dk_59 (dk_at dksJ16_numberOfTrailingZeros_2 1 rfl rfl)
theorem dJ16_numberOfTrailingZeros_49 : decode cJ16_numberOfTrailingZeros 49 = .ok (.iload_n 0, 1) := dk_26 (dk_at dksJ16_numberOfTrailingZeros_2 2 rfl rfl)
theorem dJ16_numberOfTrailingZeros_50 : decode cJ16_numberOfTrailingZeros 50 = .ok (.bipush 16, 2) := dk_16 16 (dk_at dksJ16_numberOfTrailingZeros_2 3 rfl rfl)
theorem dJ16_numberOfTrailingZeros_52 : decode cJ16_numberOfTrailingZeros 52 = .ok (.if_icmp .le 10, 3) := dk_164 0 10 (dk_at dksJ16_numberOfTrailingZeros_2 5 rfl rfl)
theorem dJ16_numberOfTrailingZeros_55 : decode cJ16_numberOfTrailingZeros 55 = .ok (.iinc 1 4, 3) := dk_132 1 4 (dk_at dksJ16_numberOfTrailingZeros_2 8 rfl rfl)
theorem dJ16_numberOfTrailingZeros_58 : decode cJ16_numberOfTrailingZeros 58 = .ok (.iload_n 0, 1) := dk_26 (dk_at dksJ16_numberOfTrailingZeros_2 11 rfl rfl)
theorem dJ16_numberOfTrailingZeros_59 : decode cJ16_numberOfTrailingZeros 59 = .ok (.iconst 4, 1) := dk_7 (dk_at dksJ16_numberOfTrailingZeros_2 12 rfl rfl)
theorem dJ16_numberOfTrailingZeros_60 : decode cJ16_numberOfTrailingZeros 60 = .ok (.iushr, 1) := dk_124 (dk_at dksJ16_numberOfTrailingZeros_2 13 rfl rfl)
theorem dJ16_numberOfTrailingZeros_61 : decode cJ16_numberOfTrailingZeros 61 = .ok (.istore_n 0, 1) := dk_59 (dk_at dksJ16_numberOfTrailingZeros_2 14 rfl rfl)
theorem dJ16_numberOfTrailingZeros_62 : decode cJ16_numberOfTrailingZeros 62 = .ok (.iload_n 0, 1) := dk_26 (dk_at dksJ16_numberOfTrailingZeros_2 15 rfl rfl)
theorem dJ16_numberOfTrailingZeros_63 : decode cJ16_numberOfTrailingZeros 63 = .ok (.iconst 4, 1) := dk_7 (dk_at dksJ16_numberOfTrailingZeros_2 16 rfl rfl)
theorem dJ16_numberOfTrailingZeros_64 : decode cJ16_numberOfTrailingZeros 64 = .ok (.if_icmp .le 10, 3) := dk_164 0 10 (dk_at dksJ16_numberOfTrailingZeros_2 17 rfl rfl)
theorem dJ16_numberOfTrailingZeros_67 : decode cJ16_numberOfTrailingZeros 67 = .ok (.iinc 1 2, 3) := dk_132 1 2 (dk_at dksJ16_numberOfTrailingZeros_2 20 rfl rfl)
theorem dJ16_numberOfTrailingZeros_70 : decode cJ16_numberOfTrailingZeros 70 = .ok (.iload_n 0, 1) := dk_26 (dk_at dksJ16_numberOfTrailingZeros_2 23 rfl rfl)
theorem dJ16_numberOfTrailingZeros_71 : decode cJ16_numberOfTrailingZeros 71 = .ok (.iconst 2, 1) := dk_5 (dk_at dksJ16_numberOfTrailingZeros_3 0 rfl rfl)
theorem dJ16_numberOfTrailingZeros_72 : decode cJ16_numberOfTrailingZeros 72 = .ok (.iushr, 1) := dk_124 (dk_at dksJ16_numberOfTrailingZeros_3 1 rfl rfl)
theorem dJ16_numberOfTrailingZeros_73 : decode cJ16_numberOfTrailingZeros 73 = .ok (.istore_n 0, 1) := dk_59 (dk_at dksJ16_numberOfTrailingZeros_3 2 rfl rfl)
theorem dJ16_numberOfTrailingZeros_74 : decode cJ16_numberOfTrailingZeros 74 = .ok (.iload_n 1, 1) := dk_27 (dk_at dksJ16_numberOfTrailingZeros_3 3 rfl rfl)
theorem dJ16_numberOfTrailingZeros_75 : decode cJ16_numberOfTrailingZeros 75 = .ok (.iload_n 0, 1) := dk_26 (dk_at dksJ16_numberOfTrailingZeros_3 4 rfl rfl)
theorem dJ16_numberOfTrailingZeros_76 : decode cJ16_numberOfTrailingZeros 76 = .ok (.iconst 1, 1) := dk_4 (dk_at dksJ16_numberOfTrailingZeros_3 5 rfl rfl)
theorem dJ16_numberOfTrailingZeros_77 : decode cJ16_numberOfTrailingZeros 77 = .ok (.iushr, 1) := dk_124 (dk_at dksJ16_numberOfTrailingZeros_3 6 rfl rfl)
theorem dJ16_numberOfTrailingZeros_78 : decode cJ16_numberOfTrailingZeros 78 = .ok (.iadd, 1) := dk_96 (dk_at dksJ16_numberOfTrailingZeros_3 7 rfl rfl)
theorem dJ16_numberOfTrailingZeros_79 : decode cJ16_numberOfTrailingZeros 79 = .ok (.ireturn, 1) := dk_172 (dk_at dksJ16_numberOfTrailingZeros_3 8 rfl rfl)
theorem q127 : (Jvm.Cond.initialized "java/lang/Integer") ∈ lw_all := lw_g (lw_at lw_m1 21 rfl) rfl
theorem q380 : (Jvm.Cond.static ({ cls := "java/lang/Integer", name := "stringSize", desc := "(I)I" } : Jvm.MethodName)) ∈ lw_all := lw_g (lw_at lw_m2 34 rfl) rfl
theorem q381 : (Jvm.Cond.code ({ cls := "java/lang/Integer", name := "stringSize", desc := "(I)I" } : Jvm.MethodName) prog_30_method_13_code (4 : Nat) (Option.some Jvm.ClassFile.FieldType.int)) ∈ lw_all := lw_g (lw_at lw_m2 35 rfl) rfl
theorem q383 : (Jvm.Cond.static ({ cls := "java/lang/Integer", name := "getChars", desc := "(II[B)I" } : Jvm.MethodName)) ∈ lw_all := lw_g (lw_at lw_m2 37 rfl) rfl
theorem q384 : (Jvm.Cond.code ({ cls := "java/lang/Integer", name := "getChars", desc := "(II[B)I" } : Jvm.MethodName) prog_30_method_12_code (7 : Nat) (Option.some Jvm.ClassFile.FieldType.int)) ∈ lw_all := lw_g (lw_at lw_m2 38 rfl) rfl
theorem q385 : (Jvm.Cond.fieldLink "java/lang/Integer" (83 : Nat) "java/lang/Integer" "DigitOnes" "[B") ∈ lw_all := lw_g (lw_at lw_m2 39 rfl) rfl
theorem q386 : (Jvm.Cond.laysStatic "java/lang/Integer" "DigitOnes" "[B") ∈ lw_tbl := lw_at lw_m2 40 rfl
theorem q387 : (Jvm.Cond.fieldLink "java/lang/Integer" (87 : Nat) "java/lang/Integer" "DigitTens" "[B") ∈ lw_all := lw_g (lw_at lw_m2 41 rfl) rfl
theorem q388 : (Jvm.Cond.laysStatic "java/lang/Integer" "DigitTens" "[B") ∈ lw_tbl := lw_at lw_m2 42 rfl
theorem q999 : (Jvm.Cond.static ({ cls := "java/lang/Integer", name := "bitCount", desc := "(I)I" } : Jvm.MethodName)) ∈ lw_all := lw_g (lw_at lw_m4 173 rfl) rfl
theorem q1000 : (Jvm.Cond.code ({ cls := "java/lang/Integer", name := "bitCount", desc := "(I)I" } : Jvm.MethodName) prog_30_method_49_code (1 : Nat) (Option.some Jvm.ClassFile.FieldType.int)) ∈ lw_all := lw_g (lw_at lw_m4 174 rfl) rfl
theorem q1001 : (Jvm.Cond.constant "java/lang/Integer" (265 : Nat) (1431655765 : Int32)) ∈ lw_all := lw_g (lw_at lw_m4 175 rfl) rfl
theorem q1002 : (Jvm.Cond.constant "java/lang/Integer" (266 : Nat) (858993459 : Int32)) ∈ lw_all := lw_g (lw_at lw_m4 176 rfl) rfl
theorem q1003 : (Jvm.Cond.constant "java/lang/Integer" (267 : Nat) (252645135 : Int32)) ∈ lw_all := lw_g (lw_at lw_m4 177 rfl) rfl
theorem q1039 : (Jvm.Cond.static ({ cls := "java/lang/Integer", name := "numberOfTrailingZeros", desc := "(I)I" } : Jvm.MethodName)) ∈ lw_all := lw_g (lw_at lw_m4 213 rfl) rfl
theorem q1040 : (Jvm.Cond.code ({ cls := "java/lang/Integer", name := "numberOfTrailingZeros", desc := "(I)I" } : Jvm.MethodName) prog_30_method_48_code (2 : Nat) (Option.some Jvm.ClassFile.FieldType.int)) ∈ lw_all := lw_g (lw_at lw_m4 214 rfl) rfl
theorem q1041 : (Jvm.Cond.constant "java/lang/Integer" (264 : Nat) (65536 : Int32)) ∈ lw_all := lw_g (lw_at lw_m4 215 rfl) rfl
/-! java/lang/Enum -/
set_option maxRecDepth 100000
def RJ17 : String := "java/lang/Enum"
abbrev cJ17_ordinal : ByteArray := prog_27_method_2_code
def yJ17_ordinal : MethodName := ⟨RJ17, "ordinal", "()I"⟩
theorem dJ17_ordinal_0 : decode cJ17_ordinal 0 = .ok (.aload_n 0, 1) := by decide +kernel
theorem dJ17_ordinal_1 : decode cJ17_ordinal 1 = .ok (.getfield 7, 3) := by decide +kernel
theorem dJ17_ordinal_4 : decode cJ17_ordinal 4 = .ok (.ireturn, 1) := by decide +kernel
theorem q129 : (Jvm.Cond.initialized "java/lang/Enum") ∈ lw_all := lw_g (lw_at lw_m1 23 rfl) rfl
theorem q817 : (Jvm.Cond.declares ({ cls := "java/lang/Enum", name := "ordinal", desc := "()I" } : Jvm.MethodName)) ∈ lw_tbl := lw_at lw_m3 231 rfl
theorem q819 : (Jvm.Cond.instanceMethod ({ cls := "java/lang/Enum", name := "ordinal", desc := "()I" } : Jvm.MethodName)) ∈ lw_all := lw_g (lw_at lw_m3 233 rfl) rfl
theorem q820 : (Jvm.Cond.code ({ cls := "java/lang/Enum", name := "ordinal", desc := "()I" } : Jvm.MethodName) prog_27_method_2_code (1 : Nat) (Option.some Jvm.ClassFile.FieldType.int)) ∈ lw_all := lw_g (lw_at lw_m3 234 rfl) rfl
theorem q2426 : (Jvm.Cond.fieldLink "java/lang/Enum" (7 : Nat) "java/lang/Enum" "ordinal" "I") ∈ lw_all := lw_g (lw_at lw_m10 160 rfl) rfl
/-! java/util/Objects -/
set_option maxRecDepth 100000
def RJ18 : String := "java/util/Objects"
abbrev cJ18_checkIndex : ByteArray := prog_50_method_17_code
def yJ18_checkIndex : MethodName := ⟨RJ18, "checkIndex", "(II)I"⟩
def dkwJ18_checkIndex_0 : List UInt8 := [26, 27, 1, 184, 0, 105, 172]
abbrev dktJ18_checkIndex_0 : List UInt8 := dkwJ18_checkIndex_0 ++ []
theorem dksJ18_checkIndex_0 : cJ18_checkIndex.data.toList.drop 0 = dktJ18_checkIndex_0 := by decide +kernel
theorem dJ18_checkIndex_0 : decode cJ18_checkIndex 0 = .ok (.iload_n 0, 1) := dk_26 (dk_at dksJ18_checkIndex_0 0 rfl rfl)
theorem dJ18_checkIndex_1 : decode cJ18_checkIndex 1 = .ok (.iload_n 1, 1) := dk_27 (dk_at dksJ18_checkIndex_0 1 rfl rfl)
theorem dJ18_checkIndex_2 : decode cJ18_checkIndex 2 = .ok (.aconst_null, 1) := dk_1 (dk_at dksJ18_checkIndex_0 2 rfl rfl)
theorem dJ18_checkIndex_3 : decode cJ18_checkIndex 3 = .ok (.invokestatic 105, 3) := dk_184 0 105 (dk_at dksJ18_checkIndex_0 3 rfl rfl)
theorem dJ18_checkIndex_6 : decode cJ18_checkIndex 6 = .ok (.ireturn, 1) := dk_172 (dk_at dksJ18_checkIndex_0 6 rfl rfl)
theorem q133 : (Jvm.Cond.initialized "java/util/Objects") ∈ lw_all := lw_g (lw_at lw_m1 27 rfl) rfl
theorem q692 : (Jvm.Cond.static ({ cls := "java/util/Objects", name := "checkIndex", desc := "(II)I" } : Jvm.MethodName)) ∈ lw_all := lw_g (lw_at lw_m3 106 rfl) rfl
theorem q693 : (Jvm.Cond.code ({ cls := "java/util/Objects", name := "checkIndex", desc := "(II)I" } : Jvm.MethodName) prog_50_method_17_code (2 : Nat) (Option.some Jvm.ClassFile.FieldType.int)) ∈ lw_all := lw_g (lw_at lw_m3 107 rfl) rfl
theorem q694 : (Jvm.Cond.methodLink "java/util/Objects" (105 : Nat) ({ cls := "jdk/internal/util/Preconditions", name := "checkIndex", desc := "(IILjava/util/function/BiFunction;)I" } : Jvm.MethodName)) ∈ lw_all := lw_g (lw_at lw_m3 108 rfl) rfl
/-! java/util/NoSuchElementException -/
set_option maxRecDepth 100000
def RJ19 : String := "java/util/NoSuchElementException"
def TJ19 : u_T := fun k => match k with
  | 0 => ("java/lang/Throwable", "cause", "Ljava/lang/Throwable;", false)
  | 1 => ("java/lang/Throwable", "stackTrace", "[Ljava/lang/StackTraceElement;", false)
  | 2 => ("java/lang/Throwable", "suppressedExceptions", "Ljava/util/List;", false)
  | 3 => ("java/lang/Throwable", "detailMessage", "Ljava/lang/String;", false)
  | 4 => ("java/lang/Throwable", "backtrace", "Ljava/lang/Object;", false)
  | _ => ("java/lang/Throwable", "depth", "I", false)
def tyJ19 : Nat → FieldType := fun k => match k with
  | 0 => .object "java/lang/Throwable"
  | 1 => .array (.object "java/lang/StackTraceElement")
  | 2 => .object "java/util/List"
  | 3 => .object "java/lang/String"
  | 4 => .object "java/lang/Object"
  | _ => .int
abbrev wsJ190 : List Cond := u_ws RJ19 TJ19 6
theorem nmJ19 : ∀ a, a < 6 → ∀ b, b < 6 → a ≠ b → (TJ19 a).2.1 ≠ (TJ19 b).2.1 := by decide +kernel
theorem tyJ19_ok : ∀ k, k < 6 → parseFieldDescriptor (TJ19 k).2.2.1 = some (tyJ19 k) := by decide +kernel
abbrev cJ19_init : ByteArray := prog_49_method_1_code
def yJ19_init : MethodName := ⟨RJ19, "<init>", "()V"⟩
theorem dJ19_init_0 : decode cJ19_init 0 = .ok (.aload_n 0, 1) := by decide +kernel
theorem dJ19_init_1 : decode cJ19_init 1 = .ok (.invokespecial 1, 3) := by decide +kernel
theorem dJ19_init_4 : decode cJ19_init 4 = .ok (.return_, 1) := by decide +kernel
theorem q147 : (Jvm.Cond.initialized "java/util/NoSuchElementException") ∈ lw_all := lw_g (lw_at lw_m1 41 rfl) rfl
theorem q212 : (Jvm.Cond.selects "java/util/NoSuchElementException" ({ cls := "java/lang/Throwable", name := "fillInStackTrace", desc := "()Ljava/lang/Throwable;" } : Jvm.MethodName) ({ cls := "java/lang/Throwable", name := "fillInStackTrace", desc := "()Ljava/lang/Throwable;" } : Jvm.MethodName)) ∈ lw_all := lw_g (lw_at lw_m1 106 rfl) rfl
theorem q640 : (Jvm.Cond.selects "java/util/NoSuchElementException" ({ cls := "java/lang/Object", name := "getClass", desc := "()Ljava/lang/Class;" } : Jvm.MethodName) ({ cls := "java/lang/Object", name := "getClass", desc := "()Ljava/lang/Class;" } : Jvm.MethodName)) ∈ lw_all := lw_g (lw_at lw_m3 54 rfl) rfl
theorem q1506 : (Jvm.Cond.instantiable "java/util/NoSuchElementException" (6 : Nat)) ∈ lw_all := lw_g (lw_at lw_m6 200 rfl) rfl
theorem q1507 : (Jvm.Cond.castable "java/util/NoSuchElementException" "java/util/NoSuchElementException") ∈ lw_tbl := lw_at lw_m6 201 rfl
theorem q1508 : (Jvm.Cond.selects "java/util/NoSuchElementException" ({ cls := "java/lang/Throwable", name := "fillInStackTrace", desc := "(I)Ljava/lang/Throwable;" } : Jvm.MethodName) ({ cls := "java/lang/Throwable", name := "fillInStackTrace", desc := "(I)Ljava/lang/Throwable;" } : Jvm.MethodName)) ∈ lw_all := lw_g (lw_at lw_m6 202 rfl) rfl
theorem q1509 : (Jvm.Cond.lays "java/util/NoSuchElementException" "java/lang/Throwable" "cause" "Ljava/lang/Throwable;") ∈ lw_all := lw_g (lw_at lw_m6 203 rfl) rfl
theorem q1510 : (Jvm.Cond.lays "java/util/NoSuchElementException" "java/lang/Throwable" "stackTrace" "[Ljava/lang/StackTraceElement;") ∈ lw_all := lw_g (lw_at lw_m6 204 rfl) rfl
theorem q1511 : (Jvm.Cond.lays "java/util/NoSuchElementException" "java/lang/Throwable" "suppressedExceptions" "Ljava/util/List;") ∈ lw_all := lw_g (lw_at lw_m6 205 rfl) rfl
theorem q1512 : (Jvm.Cond.lays "java/util/NoSuchElementException" "java/lang/Throwable" "detailMessage" "Ljava/lang/String;") ∈ lw_all := lw_g (lw_at lw_m6 206 rfl) rfl
theorem q1513 : (Jvm.Cond.lays "java/util/NoSuchElementException" "java/lang/Throwable" "backtrace" "Ljava/lang/Object;") ∈ lw_all := lw_g (lw_at lw_m6 207 rfl) rfl
theorem q1515 : (Jvm.Cond.instanceMethod ({ cls := "java/util/NoSuchElementException", name := "<init>", desc := "()V" } : Jvm.MethodName)) ∈ lw_all := lw_g (lw_at lw_m6 209 rfl) rfl
theorem q1516 : (Jvm.Cond.code ({ cls := "java/util/NoSuchElementException", name := "<init>", desc := "()V" } : Jvm.MethodName) prog_49_method_1_code (1 : Nat) (Option.none : Option Jvm.ClassFile.FieldType)) ∈ lw_all := lw_g (lw_at lw_m6 210 rfl) rfl
theorem q1517 : (Jvm.Cond.methodLink "java/util/NoSuchElementException" (1 : Nat) ({ cls := "java/lang/RuntimeException", name := "<init>", desc := "()V" } : Jvm.MethodName)) ∈ lw_all := lw_g (lw_at lw_m6 211 rfl) rfl
theorem q1518 : (Jvm.Cond.lays "java/util/NoSuchElementException" "java/lang/Throwable" "depth" "I") ∈ lw_all := lw_g (lw_at lw_m6 212 rfl) rfl
theorem q1519 : (Jvm.Cond.superclass "java/util/NoSuchElementException" "java/lang/RuntimeException") ∈ lw_all := lw_g (lw_at lw_m6 213 rfl) rfl
theorem q2414 : (Jvm.Cond.castable "java/util/NoSuchElementException" "java/lang/Object") ∈ lw_tbl := lw_at lw_m10 148 rfl
theorem in_J19 : ∀ w ∈ wsJ190, w ∈ lw_all := lw_in wsJ190 [1509, 1510, 1511, 1512, 1513, 1518] (by decide +kernel) (by decide +kernel)
/-! java/util/ArrayList -/
set_option maxRecDepth 100000
def RJ2 : String := "java/util/ArrayList"
def TJ2 : u_T := fun k => match k with
  | 0 => ("java/util/AbstractList", "modCount", "I", false)
  | 1 => ("java/util/ArrayList", "elementData", "[Ljava/lang/Object;", false)
  | _ => ("java/util/ArrayList", "size", "I", false)
def tyJ2 : Nat → FieldType := fun k => match k with
  | 0 => .int
  | 1 => .array (.object "java/lang/Object")
  | _ => .int
abbrev wsJ20 : List Cond := u_ws RJ2 TJ2 3
theorem nmJ2 : ∀ a, a < 3 → ∀ b, b < 3 → a ≠ b → (TJ2 a).2.1 ≠ (TJ2 b).2.1 := by decide +kernel
theorem tyJ2_ok : ∀ k, k < 3 → parseFieldDescriptor (TJ2 k).2.2.1 = some (tyJ2 k) := by decide +kernel
abbrev cJ2_init : ByteArray := prog_45_method_1_code
def yJ2_init : MethodName := ⟨RJ2, "<init>", "(I)V"⟩
def dkwJ2_init_2 : List UInt8 := [182, 0, 25, 27, 182, 0, 29, 182, 0, 32, 183, 0, 36, 191, 177]
abbrev dktJ2_init_2 : List UInt8 := dkwJ2_init_2 ++ []
def dkwJ2_init_1 : List UInt8 := [178, 0, 15, 181, 0, 9, 167, 0, 30, 187, 0, 18, 89, 187, 0, 20, 89, 183, 0, 22, 18, 23]
abbrev dktJ2_init_1 : List UInt8 := dkwJ2_init_1 ++ dktJ2_init_2
def dkwJ2_init_0 : List UInt8 := [42, 183, 0, 1, 27, 158, 0, 14, 42, 27, 189, 0, 7, 181, 0, 9, 167, 0, 44, 27, 154, 0, 13, 42]
abbrev dktJ2_init_0 : List UInt8 := dkwJ2_init_0 ++ dktJ2_init_1
theorem dksJ2_init_0 : cJ2_init.data.toList.drop 0 = dktJ2_init_0 := by decide +kernel
theorem dksJ2_init_1 : cJ2_init.data.toList.drop 24 = dktJ2_init_1 := dk_seg dksJ2_init_0 24 rfl rfl
theorem dksJ2_init_2 : cJ2_init.data.toList.drop 46 = dktJ2_init_2 := dk_seg dksJ2_init_1 22 rfl rfl
theorem dJ2_init_0 : decode cJ2_init 0 = .ok (.aload_n 0, 1) := dk_42 (dk_at dksJ2_init_0 0 rfl rfl)
theorem dJ2_init_1 : decode cJ2_init 1 = .ok (.invokespecial 1, 3) := dk_183 0 1 (dk_at dksJ2_init_0 1 rfl rfl)
theorem dJ2_init_4 : decode cJ2_init 4 = .ok (.iload_n 1, 1) := dk_27 (dk_at dksJ2_init_0 4 rfl rfl)
theorem dJ2_init_5 : decode cJ2_init 5 = .ok (.ifCond .le 14, 3) := dk_158 0 14 (dk_at dksJ2_init_0 5 rfl rfl)
theorem dJ2_init_8 : decode cJ2_init 8 = .ok (.aload_n 0, 1) := dk_42 (dk_at dksJ2_init_0 8 rfl rfl)
theorem dJ2_init_9 : decode cJ2_init 9 = .ok (.iload_n 1, 1) := dk_27 (dk_at dksJ2_init_0 9 rfl rfl)
theorem dJ2_init_10 : decode cJ2_init 10 = .ok (.anewarray 7, 3) := dk_189 0 7 (dk_at dksJ2_init_0 10 rfl rfl)
theorem dJ2_init_13 : decode cJ2_init 13 = .ok (.putfield 9, 3) := dk_181 0 9 (dk_at dksJ2_init_0 13 rfl rfl)
theorem dJ2_init_16 : decode cJ2_init 16 = .ok (.goto 44, 3) := dk_167 0 44 (dk_at dksJ2_init_0 16 rfl rfl)
theorem dJ2_init_19 : decode cJ2_init 19 = .ok (.iload_n 1, 1) := dk_27 (dk_at dksJ2_init_0 19 rfl rfl)
theorem dJ2_init_20 : decode cJ2_init 20 = .ok (.ifCond .ne 13, 3) := dk_154 0 13 (dk_at dksJ2_init_0 20 rfl rfl)
theorem dJ2_init_23 : decode cJ2_init 23 = .ok (.aload_n 0, 1) := dk_42 (dk_at dksJ2_init_0 23 rfl rfl)
theorem dJ2_init_24 : decode cJ2_init 24 = .ok (.getstatic 15, 3) := dk_178 0 15 (dk_at dksJ2_init_1 0 rfl rfl)
theorem dJ2_init_27 : decode cJ2_init 27 = .ok (.putfield 9, 3) := dk_181 0 9 (dk_at dksJ2_init_1 3 rfl rfl)
theorem dJ2_init_30 : decode cJ2_init 30 = .ok (.goto 30, 3) := dk_167 0 30 (dk_at dksJ2_init_1 6 rfl rfl)
theorem dJ2_init_33 : decode cJ2_init 33 = .ok (.new 18, 3) := dk_187 0 18 (dk_at dksJ2_init_1 9 rfl rfl)
theorem dJ2_init_36 : decode cJ2_init 36 = .ok (.dup, 1) := dk_89 (dk_at dksJ2_init_1 12 rfl rfl)
theorem dJ2_init_37 : decode cJ2_init 37 = .ok (.new 20, 3) := dk_187 0 20 (dk_at dksJ2_init_1 13 rfl rfl)
theorem dJ2_init_40 : decode cJ2_init 40 = .ok (.dup, 1) := dk_89 (dk_at dksJ2_init_1 16 rfl rfl)
theorem dJ2_init_41 : decode cJ2_init 41 = .ok (.invokespecial 22, 3) := dk_183 0 22 (dk_at dksJ2_init_1 17 rfl rfl)
theorem dJ2_init_44 : decode cJ2_init 44 = .ok (.ldc 23, 2) := dk_18 23 (dk_at dksJ2_init_1 20 rfl rfl)
theorem dJ2_init_46 : decode cJ2_init 46 = .ok (.invokevirtual 25, 3) := dk_182 0 25 (dk_at dksJ2_init_2 0 rfl rfl)
theorem dJ2_init_49 : decode cJ2_init 49 = .ok (.iload_n 1, 1) := dk_27 (dk_at dksJ2_init_2 3 rfl rfl)
theorem dJ2_init_50 : decode cJ2_init 50 = .ok (.invokevirtual 29, 3) := dk_182 0 29 (dk_at dksJ2_init_2 4 rfl rfl)
theorem dJ2_init_53 : decode cJ2_init 53 = .ok (.invokevirtual 32, 3) := dk_182 0 32 (dk_at dksJ2_init_2 7 rfl rfl)
theorem dJ2_init_56 : decode cJ2_init 56 = .ok (.invokespecial 36, 3) := dk_183 0 36 (dk_at dksJ2_init_2 10 rfl rfl)
theorem dJ2_init_59 : decode cJ2_init 59 = .ok (.athrow, 1) := dk_191 (dk_at dksJ2_init_2 13 rfl rfl)
theorem dJ2_init_60 : decode cJ2_init 60 = .ok (.return_, 1) := dk_177 (dk_at dksJ2_init_2 14 rfl rfl)
abbrev cJ2_add : ByteArray := prog_45_method_25_code
def yJ2_add : MethodName := ⟨RJ2, "add", "(Ljava/lang/Object;)Z"⟩
def dkwJ2_add_1 : List UInt8 := [172]
abbrev dktJ2_add_1 : List UInt8 := dkwJ2_add_1 ++ []
def dkwJ2_add_0 : List UInt8 := [42, 89, 180, 0, 63, 4, 96, 181, 0, 63, 42, 43, 42, 180, 0, 9, 42, 180, 0, 48, 182, 0, 131, 4]
abbrev dktJ2_add_0 : List UInt8 := dkwJ2_add_0 ++ dktJ2_add_1
theorem dksJ2_add_0 : cJ2_add.data.toList.drop 0 = dktJ2_add_0 := by decide +kernel
theorem dksJ2_add_1 : cJ2_add.data.toList.drop 24 = dktJ2_add_1 := dk_seg dksJ2_add_0 24 rfl rfl
theorem dJ2_add_0 : decode cJ2_add 0 = .ok (.aload_n 0, 1) := dk_42 (dk_at dksJ2_add_0 0 rfl rfl)
theorem dJ2_add_1 : decode cJ2_add 1 = .ok (.dup, 1) := dk_89 (dk_at dksJ2_add_0 1 rfl rfl)
theorem dJ2_add_2 : decode cJ2_add 2 = .ok (.getfield 63, 3) := dk_180 0 63 (dk_at dksJ2_add_0 2 rfl rfl)
theorem dJ2_add_5 : decode cJ2_add 5 = .ok (.iconst 1, 1) := dk_4 (dk_at dksJ2_add_0 5 rfl rfl)
theorem dJ2_add_6 : decode cJ2_add 6 = .ok (.iadd, 1) := dk_96 (dk_at dksJ2_add_0 6 rfl rfl)
theorem dJ2_add_7 : decode cJ2_add 7 = .ok (.putfield 63, 3) := dk_181 0 63 (dk_at dksJ2_add_0 7 rfl rfl)
theorem dJ2_add_10 : decode cJ2_add 10 = .ok (.aload_n 0, 1) := dk_42 (dk_at dksJ2_add_0 10 rfl rfl)
theorem dJ2_add_11 : decode cJ2_add 11 = .ok (.aload_n 1, 1) := dk_43 (dk_at dksJ2_add_0 11 rfl rfl)
theorem dJ2_add_12 : decode cJ2_add 12 = .ok (.aload_n 0, 1) := dk_42 (dk_at dksJ2_add_0 12 rfl rfl)
theorem dJ2_add_13 : decode cJ2_add 13 = .ok (.getfield 9, 3) := dk_180 0 9 (dk_at dksJ2_add_0 13 rfl rfl)
theorem dJ2_add_16 : decode cJ2_add 16 = .ok (.aload_n 0, 1) := dk_42 (dk_at dksJ2_add_0 16 rfl rfl)
theorem dJ2_add_17 : decode cJ2_add 17 = .ok (.getfield 48, 3) := dk_180 0 48 (dk_at dksJ2_add_0 17 rfl rfl)
theorem dJ2_add_20 : decode cJ2_add 20 = .ok (.invokevirtual 131, 3) := dk_182 0 131 (dk_at dksJ2_add_0 20 rfl rfl)
theorem dJ2_add_23 : decode cJ2_add 23 = .ok (.iconst 1, 1) := dk_4 (dk_at dksJ2_add_0 23 rfl rfl)
theorem dJ2_add_24 : decode cJ2_add 24 = .ok (.ireturn, 1) := dk_172 (dk_at dksJ2_add_1 0 rfl rfl)
abbrev cJ2_add_2 : ByteArray := prog_45_method_24_code
def yJ2_add_2 : MethodName := ⟨RJ2, "add", "(Ljava/lang/Object;[Ljava/lang/Object;I)V"⟩
def dkwJ2_add_2_0 : List UInt8 := [29, 44, 190, 160, 0, 8, 42, 182, 0, 129, 77, 44, 29, 43, 83, 42, 29, 4, 96, 181, 0, 48, 177]
abbrev dktJ2_add_2_0 : List UInt8 := dkwJ2_add_2_0 ++ []
theorem dksJ2_add_2_0 : cJ2_add_2.data.toList.drop 0 = dktJ2_add_2_0 := by decide +kernel
theorem dJ2_add_2_0 : decode cJ2_add_2 0 = .ok (.iload_n 3, 1) := dk_29 (dk_at dksJ2_add_2_0 0 rfl rfl)
theorem dJ2_add_2_1 : decode cJ2_add_2 1 = .ok (.aload_n 2, 1) := dk_44 (dk_at dksJ2_add_2_0 1 rfl rfl)
theorem dJ2_add_2_2 : decode cJ2_add_2 2 = .ok (.arraylength, 1) := dk_190 (dk_at dksJ2_add_2_0 2 rfl rfl)
theorem dJ2_add_2_3 : decode cJ2_add_2 3 = .ok (.if_icmp .ne 8, 3) := dk_160 0 8 (dk_at dksJ2_add_2_0 3 rfl rfl)
theorem dJ2_add_2_6 : decode cJ2_add_2 6 = .ok (.aload_n 0, 1) := dk_42 (dk_at dksJ2_add_2_0 6 rfl rfl)
theorem dJ2_add_2_7 : decode cJ2_add_2 7 = .ok (.invokevirtual 129, 3) := dk_182 0 129 (dk_at dksJ2_add_2_0 7 rfl rfl)
theorem dJ2_add_2_10 : decode cJ2_add_2 10 = .ok (.astore_n 2, 1) := dk_77 (dk_at dksJ2_add_2_0 10 rfl rfl)
theorem dJ2_add_2_11 : decode cJ2_add_2 11 = .ok (.aload_n 2, 1) := dk_44 (dk_at dksJ2_add_2_0 11 rfl rfl)
theorem dJ2_add_2_12 : decode cJ2_add_2 12 = .ok (.iload_n 3, 1) := dk_29 (dk_at dksJ2_add_2_0 12 rfl rfl)
theorem dJ2_add_2_13 : decode cJ2_add_2 13 = .ok (.aload_n 1, 1) := dk_43 (dk_at dksJ2_add_2_0 13 rfl rfl)
theorem dJ2_add_2_14 : decode cJ2_add_2 14 = .ok (.aastore, 1) := dk_83 (dk_at dksJ2_add_2_0 14 rfl rfl)
theorem dJ2_add_2_15 : decode cJ2_add_2 15 = .ok (.aload_n 0, 1) := dk_42 (dk_at dksJ2_add_2_0 15 rfl rfl)
theorem dJ2_add_2_16 : decode cJ2_add_2 16 = .ok (.iload_n 3, 1) := dk_29 (dk_at dksJ2_add_2_0 16 rfl rfl)
theorem dJ2_add_2_17 : decode cJ2_add_2 17 = .ok (.iconst 1, 1) := dk_4 (dk_at dksJ2_add_2_0 17 rfl rfl)
theorem dJ2_add_2_18 : decode cJ2_add_2 18 = .ok (.iadd, 1) := dk_96 (dk_at dksJ2_add_2_0 18 rfl rfl)
theorem dJ2_add_2_19 : decode cJ2_add_2 19 = .ok (.putfield 48, 3) := dk_181 0 48 (dk_at dksJ2_add_2_0 19 rfl rfl)
theorem dJ2_add_2_22 : decode cJ2_add_2 22 = .ok (.return_, 1) := dk_177 (dk_at dksJ2_add_2_0 22 rfl rfl)
abbrev cJ2_grow : ByteArray := prog_45_method_7_code
def yJ2_grow : MethodName := ⟨RJ2, "grow", "()[Ljava/lang/Object;"⟩
def dkwJ2_grow_0 : List UInt8 := [42, 42, 180, 0, 48, 4, 96, 182, 0, 69, 176]
abbrev dktJ2_grow_0 : List UInt8 := dkwJ2_grow_0 ++ []
theorem dksJ2_grow_0 : cJ2_grow.data.toList.drop 0 = dktJ2_grow_0 := by decide +kernel
theorem dJ2_grow_0 : decode cJ2_grow 0 = .ok (.aload_n 0, 1) := dk_42 (dk_at dksJ2_grow_0 0 rfl rfl)
theorem dJ2_grow_1 : decode cJ2_grow 1 = .ok (.aload_n 0, 1) := dk_42 (dk_at dksJ2_grow_0 1 rfl rfl)
theorem dJ2_grow_2 : decode cJ2_grow 2 = .ok (.getfield 48, 3) := dk_180 0 48 (dk_at dksJ2_grow_0 2 rfl rfl)
theorem dJ2_grow_5 : decode cJ2_grow 5 = .ok (.iconst 1, 1) := dk_4 (dk_at dksJ2_grow_0 5 rfl rfl)
theorem dJ2_grow_6 : decode cJ2_grow 6 = .ok (.iadd, 1) := dk_96 (dk_at dksJ2_grow_0 6 rfl rfl)
theorem dJ2_grow_7 : decode cJ2_grow 7 = .ok (.invokevirtual 69, 3) := dk_182 0 69 (dk_at dksJ2_grow_0 7 rfl rfl)
theorem dJ2_grow_10 : decode cJ2_grow 10 = .ok (.areturn, 1) := dk_176 (dk_at dksJ2_grow_0 10 rfl rfl)
abbrev cJ2_grow_2 : ByteArray := prog_45_method_6_code
def yJ2_grow_2 : MethodName := ⟨RJ2, "grow", "(I)[Ljava/lang/Object;"⟩
def dkwJ2_grow_2_2 : List UInt8 := [27, 184, 0, 79, 189, 0, 7, 90, 181, 0, 9, 176]
abbrev dktJ2_grow_2_2 : List UInt8 := dkwJ2_grow_2_2 ++ []
def dkwJ2_grow_2_1 : List UInt8 := [28, 4, 122, 184, 0, 73, 62, 42, 42, 180, 0, 9, 29, 184, 0, 66, 90, 181, 0, 9, 176, 42, 16, 10]
abbrev dktJ2_grow_2_1 : List UInt8 := dkwJ2_grow_2_1 ++ dktJ2_grow_2_2
def dkwJ2_grow_2_0 : List UInt8 := [42, 180, 0, 9, 190, 61, 28, 157, 0, 13, 42, 180, 0, 9, 178, 0, 39, 165, 0, 28, 28, 27, 28, 100]
abbrev dktJ2_grow_2_0 : List UInt8 := dkwJ2_grow_2_0 ++ dktJ2_grow_2_1
theorem dksJ2_grow_2_0 : cJ2_grow_2.data.toList.drop 0 = dktJ2_grow_2_0 := by decide +kernel
theorem dksJ2_grow_2_1 : cJ2_grow_2.data.toList.drop 24 = dktJ2_grow_2_1 := dk_seg dksJ2_grow_2_0 24 rfl rfl
theorem dksJ2_grow_2_2 : cJ2_grow_2.data.toList.drop 48 = dktJ2_grow_2_2 := dk_seg dksJ2_grow_2_1 24 rfl rfl
theorem dJ2_grow_2_0 : decode cJ2_grow_2 0 = .ok (.aload_n 0, 1) := dk_42 (dk_at dksJ2_grow_2_0 0 rfl rfl)
theorem dJ2_grow_2_1 : decode cJ2_grow_2 1 = .ok (.getfield 9, 3) := dk_180 0 9 (dk_at dksJ2_grow_2_0 1 rfl rfl)
theorem dJ2_grow_2_4 : decode cJ2_grow_2 4 = .ok (.arraylength, 1) := dk_190 (dk_at dksJ2_grow_2_0 4 rfl rfl)
theorem dJ2_grow_2_5 : decode cJ2_grow_2 5 = .ok (.istore_n 2, 1) := dk_61 (dk_at dksJ2_grow_2_0 5 rfl rfl)
theorem dJ2_grow_2_6 : decode cJ2_grow_2 6 = .ok (.iload_n 2, 1) := dk_28 (dk_at dksJ2_grow_2_0 6 rfl rfl)
theorem dJ2_grow_2_7 : decode cJ2_grow_2 7 = .ok (.ifCond .gt 13, 3) := dk_157 0 13 (dk_at dksJ2_grow_2_0 7 rfl rfl)
theorem dJ2_grow_2_10 : decode cJ2_grow_2 10 = .ok (.aload_n 0, 1) := dk_42 (dk_at dksJ2_grow_2_0 10 rfl rfl)
theorem dJ2_grow_2_11 : decode cJ2_grow_2 11 = .ok (.getfield 9, 3) := dk_180 0 9 (dk_at dksJ2_grow_2_0 11 rfl rfl)
theorem dJ2_grow_2_14 : decode cJ2_grow_2 14 = .ok (.getstatic 39, 3) := dk_178 0 39 (dk_at dksJ2_grow_2_0 14 rfl rfl)
theorem dJ2_grow_2_17 : decode cJ2_grow_2 17 = .ok (.if_acmp .eq 28, 3) := dk_165 0 28 (dk_at dksJ2_grow_2_0 17 rfl rfl)
theorem dJ2_grow_2_20 : decode cJ2_grow_2 20 = .ok (.iload_n 2, 1) := dk_28 (dk_at dksJ2_grow_2_0 20 rfl rfl)
theorem dJ2_grow_2_21 : decode cJ2_grow_2 21 = .ok (.iload_n 1, 1) := dk_27 (dk_at dksJ2_grow_2_0 21 rfl rfl)
theorem dJ2_grow_2_22 : decode cJ2_grow_2 22 = .ok (.iload_n 2, 1) := dk_28 (dk_at dksJ2_grow_2_0 22 rfl rfl)
theorem dJ2_grow_2_23 : decode cJ2_grow_2 23 = .ok (.isub, 1) := dk_100 (dk_at dksJ2_grow_2_0 23 rfl rfl)
theorem dJ2_grow_2_24 : decode cJ2_grow_2 24 = .ok (.iload_n 2, 1) := dk_28 (dk_at dksJ2_grow_2_1 0 rfl rfl)
theorem dJ2_grow_2_25 : decode cJ2_grow_2 25 = .ok (.iconst 1, 1) := dk_4 (dk_at dksJ2_grow_2_1 1 rfl rfl)
theorem dJ2_grow_2_26 : decode cJ2_grow_2 26 = .ok (.ishr, 1) := dk_122 (dk_at dksJ2_grow_2_1 2 rfl rfl)
theorem dJ2_grow_2_27 : decode cJ2_grow_2 27 = .ok (.invokestatic 73, 3) := dk_184 0 73 (dk_at dksJ2_grow_2_1 3 rfl rfl)
theorem dJ2_grow_2_30 : decode cJ2_grow_2 30 = .ok (.istore_n 3, 1) := dk_62 (dk_at dksJ2_grow_2_1 6 rfl rfl)
theorem dJ2_grow_2_31 : decode cJ2_grow_2 31 = .ok (.aload_n 0, 1) := dk_42 (dk_at dksJ2_grow_2_1 7 rfl rfl)
theorem dJ2_grow_2_32 : decode cJ2_grow_2 32 = .ok (.aload_n 0, 1) := dk_42 (dk_at dksJ2_grow_2_1 8 rfl rfl)
theorem dJ2_grow_2_33 : decode cJ2_grow_2 33 = .ok (.getfield 9, 3) := dk_180 0 9 (dk_at dksJ2_grow_2_1 9 rfl rfl)
theorem dJ2_grow_2_36 : decode cJ2_grow_2 36 = .ok (.iload_n 3, 1) := dk_29 (dk_at dksJ2_grow_2_1 12 rfl rfl)
theorem dJ2_grow_2_37 : decode cJ2_grow_2 37 = .ok (.invokestatic 66, 3) := dk_184 0 66 (dk_at dksJ2_grow_2_1 13 rfl rfl)
theorem dJ2_grow_2_40 : decode cJ2_grow_2 40 = .ok (.dup_x1, 1) := dk_90 (dk_at dksJ2_grow_2_1 16 rfl rfl)
theorem dJ2_grow_2_41 : decode cJ2_grow_2 41 = .ok (.putfield 9, 3) := dk_181 0 9 (dk_at dksJ2_grow_2_1 17 rfl rfl)
theorem dJ2_grow_2_44 : decode cJ2_grow_2 44 = .ok (.areturn, 1) := dk_176 (dk_at dksJ2_grow_2_1 20 rfl rfl)
theorem dJ2_grow_2_45 : decode cJ2_grow_2 45 = .ok (.aload_n 0, 1) := dk_42 (dk_at dksJ2_grow_2_1 21 rfl rfl)
theorem dJ2_grow_2_46 : decode cJ2_grow_2 46 = .ok (.bipush 10, 2) := dk_16 10 (dk_at dksJ2_grow_2_1 22 rfl rfl)
theorem dJ2_grow_2_48 : decode cJ2_grow_2 48 = .ok (.iload_n 1, 1) := dk_27 (dk_at dksJ2_grow_2_2 0 rfl rfl)
theorem dJ2_grow_2_49 : decode cJ2_grow_2 49 = .ok (.invokestatic 79, 3) := dk_184 0 79 (dk_at dksJ2_grow_2_2 1 rfl rfl)
theorem dJ2_grow_2_52 : decode cJ2_grow_2 52 = .ok (.anewarray 7, 3) := dk_189 0 7 (dk_at dksJ2_grow_2_2 4 rfl rfl)
theorem dJ2_grow_2_55 : decode cJ2_grow_2 55 = .ok (.dup_x1, 1) := dk_90 (dk_at dksJ2_grow_2_2 7 rfl rfl)
theorem dJ2_grow_2_56 : decode cJ2_grow_2 56 = .ok (.putfield 9, 3) := dk_181 0 9 (dk_at dksJ2_grow_2_2 8 rfl rfl)
theorem dJ2_grow_2_59 : decode cJ2_grow_2 59 = .ok (.areturn, 1) := dk_176 (dk_at dksJ2_grow_2_2 11 rfl rfl)
abbrev cJ2_size : ByteArray := prog_45_method_8_code
def yJ2_size : MethodName := ⟨RJ2, "size", "()I"⟩
theorem dJ2_size_0 : decode cJ2_size 0 = .ok (.aload_n 0, 1) := by decide +kernel
theorem dJ2_size_1 : decode cJ2_size 1 = .ok (.getfield 48, 3) := by decide +kernel
theorem dJ2_size_4 : decode cJ2_size 4 = .ok (.ireturn, 1) := by decide +kernel
abbrev cJ2_get : ByteArray := prog_45_method_20_code
def yJ2_get : MethodName := ⟨RJ2, "get", "(I)Ljava/lang/Object;"⟩
def dkwJ2_get_0 : List UInt8 := [27, 42, 180, 0, 48, 184, 0, 118, 87, 42, 27, 182, 0, 123, 176]
abbrev dktJ2_get_0 : List UInt8 := dkwJ2_get_0 ++ []
theorem dksJ2_get_0 : cJ2_get.data.toList.drop 0 = dktJ2_get_0 := by decide +kernel
theorem dJ2_get_0 : decode cJ2_get 0 = .ok (.iload_n 1, 1) := dk_27 (dk_at dksJ2_get_0 0 rfl rfl)
theorem dJ2_get_1 : decode cJ2_get 1 = .ok (.aload_n 0, 1) := dk_42 (dk_at dksJ2_get_0 1 rfl rfl)
theorem dJ2_get_2 : decode cJ2_get 2 = .ok (.getfield 48, 3) := dk_180 0 48 (dk_at dksJ2_get_0 2 rfl rfl)
theorem dJ2_get_5 : decode cJ2_get 5 = .ok (.invokestatic 118, 3) := dk_184 0 118 (dk_at dksJ2_get_0 5 rfl rfl)
theorem dJ2_get_8 : decode cJ2_get 8 = .ok (.pop, 1) := dk_87 (dk_at dksJ2_get_0 8 rfl rfl)
theorem dJ2_get_9 : decode cJ2_get 9 = .ok (.aload_n 0, 1) := dk_42 (dk_at dksJ2_get_0 9 rfl rfl)
theorem dJ2_get_10 : decode cJ2_get 10 = .ok (.iload_n 1, 1) := dk_27 (dk_at dksJ2_get_0 10 rfl rfl)
theorem dJ2_get_11 : decode cJ2_get 11 = .ok (.invokevirtual 123, 3) := dk_182 0 123 (dk_at dksJ2_get_0 11 rfl rfl)
theorem dJ2_get_14 : decode cJ2_get 14 = .ok (.areturn, 1) := dk_176 (dk_at dksJ2_get_0 14 rfl rfl)
abbrev cJ2_elementData : ByteArray := prog_45_method_18_code
def yJ2_elementData : MethodName := ⟨RJ2, "elementData", "(I)Ljava/lang/Object;"⟩
def dkwJ2_elementData_0 : List UInt8 := [42, 180, 0, 9, 27, 50, 176]
abbrev dktJ2_elementData_0 : List UInt8 := dkwJ2_elementData_0 ++ []
theorem dksJ2_elementData_0 : cJ2_elementData.data.toList.drop 0 = dktJ2_elementData_0 := by decide +kernel
theorem dJ2_elementData_0 : decode cJ2_elementData 0 = .ok (.aload_n 0, 1) := dk_42 (dk_at dksJ2_elementData_0 0 rfl rfl)
theorem dJ2_elementData_1 : decode cJ2_elementData 1 = .ok (.getfield 9, 3) := dk_180 0 9 (dk_at dksJ2_elementData_0 1 rfl rfl)
theorem dJ2_elementData_4 : decode cJ2_elementData 4 = .ok (.iload_n 1, 1) := dk_27 (dk_at dksJ2_elementData_0 4 rfl rfl)
theorem dJ2_elementData_5 : decode cJ2_elementData 5 = .ok (.aaload, 1) := dk_50 (dk_at dksJ2_elementData_0 5 rfl rfl)
theorem dJ2_elementData_6 : decode cJ2_elementData 6 = .ok (.areturn, 1) := dk_176 (dk_at dksJ2_elementData_0 6 rfl rfl)
abbrev cJ2_remove : ByteArray := prog_45_method_29_code
def yJ2_remove : MethodName := ⟨RJ2, "remove", "(I)Ljava/lang/Object;"⟩
def dkwJ2_remove_1 : List UInt8 := [45, 176]
abbrev dktJ2_remove_1 : List UInt8 := dkwJ2_remove_1 ++ []
def dkwJ2_remove_0 : List UInt8 := [27, 42, 180, 0, 48, 184, 0, 118, 87, 42, 180, 0, 9, 77, 44, 27, 50, 78, 42, 44, 27, 182, 0, 144]
abbrev dktJ2_remove_0 : List UInt8 := dkwJ2_remove_0 ++ dktJ2_remove_1
theorem dksJ2_remove_0 : cJ2_remove.data.toList.drop 0 = dktJ2_remove_0 := by decide +kernel
theorem dksJ2_remove_1 : cJ2_remove.data.toList.drop 24 = dktJ2_remove_1 := dk_seg dksJ2_remove_0 24 rfl rfl
theorem dJ2_remove_0 : decode cJ2_remove 0 = .ok (.iload_n 1, 1) := dk_27 (dk_at dksJ2_remove_0 0 rfl rfl)
theorem dJ2_remove_1 : decode cJ2_remove 1 = .ok (.aload_n 0, 1) := dk_42 (dk_at dksJ2_remove_0 1 rfl rfl)
theorem dJ2_remove_2 : decode cJ2_remove 2 = .ok (.getfield 48, 3) := dk_180 0 48 (dk_at dksJ2_remove_0 2 rfl rfl)
theorem dJ2_remove_5 : decode cJ2_remove 5 = .ok (.invokestatic 118, 3) := dk_184 0 118 (dk_at dksJ2_remove_0 5 rfl rfl)
theorem dJ2_remove_8 : decode cJ2_remove 8 = .ok (.pop, 1) := dk_87 (dk_at dksJ2_remove_0 8 rfl rfl)
theorem dJ2_remove_9 : decode cJ2_remove 9 = .ok (.aload_n 0, 1) := dk_42 (dk_at dksJ2_remove_0 9 rfl rfl)
theorem dJ2_remove_10 : decode cJ2_remove 10 = .ok (.getfield 9, 3) := dk_180 0 9 (dk_at dksJ2_remove_0 10 rfl rfl)
theorem dJ2_remove_13 : decode cJ2_remove 13 = .ok (.astore_n 2, 1) := dk_77 (dk_at dksJ2_remove_0 13 rfl rfl)
theorem dJ2_remove_14 : decode cJ2_remove 14 = .ok (.aload_n 2, 1) := dk_44 (dk_at dksJ2_remove_0 14 rfl rfl)
theorem dJ2_remove_15 : decode cJ2_remove 15 = .ok (.iload_n 1, 1) := dk_27 (dk_at dksJ2_remove_0 15 rfl rfl)
theorem dJ2_remove_16 : decode cJ2_remove 16 = .ok (.aaload, 1) := dk_50 (dk_at dksJ2_remove_0 16 rfl rfl)
theorem dJ2_remove_17 : decode cJ2_remove 17 = .ok (.astore_n 3, 1) := dk_78 (dk_at dksJ2_remove_0 17 rfl rfl)
theorem dJ2_remove_18 : decode cJ2_remove 18 = .ok (.aload_n 0, 1) := dk_42 (dk_at dksJ2_remove_0 18 rfl rfl)
theorem dJ2_remove_19 : decode cJ2_remove 19 = .ok (.aload_n 2, 1) := dk_44 (dk_at dksJ2_remove_0 19 rfl rfl)
theorem dJ2_remove_20 : decode cJ2_remove 20 = .ok (.iload_n 1, 1) := dk_27 (dk_at dksJ2_remove_0 20 rfl rfl)
theorem dJ2_remove_21 : decode cJ2_remove 21 = .ok (.invokevirtual 144, 3) := dk_182 0 144 (dk_at dksJ2_remove_0 21 rfl rfl)
theorem dJ2_remove_24 : decode cJ2_remove 24 = .ok (.aload_n 3, 1) := dk_45 (dk_at dksJ2_remove_1 0 rfl rfl)
theorem dJ2_remove_25 : decode cJ2_remove 25 = .ok (.areturn, 1) := dk_176 (dk_at dksJ2_remove_1 1 rfl rfl)
abbrev cJ2_fastRemove : ByteArray := prog_45_method_39_code
def yJ2_fastRemove : MethodName := ⟨RJ2, "fastRemove", "([Ljava/lang/Object;I)V"⟩
def dkwJ2_fastRemove_1 : List UInt8 := [4, 96, 43, 28, 29, 28, 100, 184, 0, 112, 43, 42, 29, 90, 181, 0, 48, 1, 83, 177]
abbrev dktJ2_fastRemove_1 : List UInt8 := dkwJ2_fastRemove_1 ++ []
def dkwJ2_fastRemove_0 : List UInt8 := [42, 89, 180, 0, 63, 4, 96, 181, 0, 63, 42, 180, 0, 48, 4, 100, 89, 62, 28, 164, 0, 15, 43, 28]
abbrev dktJ2_fastRemove_0 : List UInt8 := dkwJ2_fastRemove_0 ++ dktJ2_fastRemove_1
theorem dksJ2_fastRemove_0 : cJ2_fastRemove.data.toList.drop 0 = dktJ2_fastRemove_0 := by decide +kernel
theorem dksJ2_fastRemove_1 : cJ2_fastRemove.data.toList.drop 24 = dktJ2_fastRemove_1 := dk_seg dksJ2_fastRemove_0 24 rfl rfl
theorem dJ2_fastRemove_0 : decode cJ2_fastRemove 0 = .ok (.aload_n 0, 1) := dk_42 (dk_at dksJ2_fastRemove_0 0 rfl rfl)
theorem dJ2_fastRemove_1 : decode cJ2_fastRemove 1 = .ok (.dup, 1) := dk_89 (dk_at dksJ2_fastRemove_0 1 rfl rfl)
theorem dJ2_fastRemove_2 : decode cJ2_fastRemove 2 = .ok (.getfield 63, 3) := dk_180 0 63 (dk_at dksJ2_fastRemove_0 2 rfl rfl)
theorem dJ2_fastRemove_5 : decode cJ2_fastRemove 5 = .ok (.iconst 1, 1) := dk_4 (dk_at dksJ2_fastRemove_0 5 rfl rfl)
theorem dJ2_fastRemove_6 : decode cJ2_fastRemove 6 = .ok (.iadd, 1) := dk_96 (dk_at dksJ2_fastRemove_0 6 rfl rfl)
theorem dJ2_fastRemove_7 : decode cJ2_fastRemove 7 = .ok (.putfield 63, 3) := dk_181 0 63 (dk_at dksJ2_fastRemove_0 7 rfl rfl)
theorem dJ2_fastRemove_10 : decode cJ2_fastRemove 10 = .ok (.aload_n 0, 1) := dk_42 (dk_at dksJ2_fastRemove_0 10 rfl rfl)
theorem dJ2_fastRemove_11 : decode cJ2_fastRemove 11 = .ok (.getfield 48, 3) := dk_180 0 48 (dk_at dksJ2_fastRemove_0 11 rfl rfl)
theorem dJ2_fastRemove_14 : decode cJ2_fastRemove 14 = .ok (.iconst 1, 1) := dk_4 (dk_at dksJ2_fastRemove_0 14 rfl rfl)
theorem dJ2_fastRemove_15 : decode cJ2_fastRemove 15 = .ok (.isub, 1) := dk_100 (dk_at dksJ2_fastRemove_0 15 rfl rfl)
theorem dJ2_fastRemove_16 : decode cJ2_fastRemove 16 = .ok (.dup, 1) := dk_89 (dk_at dksJ2_fastRemove_0 16 rfl rfl)
theorem dJ2_fastRemove_17 : decode cJ2_fastRemove 17 = .ok (.istore_n 3, 1) := dk_62 (dk_at dksJ2_fastRemove_0 17 rfl rfl)
theorem dJ2_fastRemove_18 : decode cJ2_fastRemove 18 = .ok (.iload_n 2, 1) := dk_28 (dk_at dksJ2_fastRemove_0 18 rfl rfl)
theorem dJ2_fastRemove_19 : decode cJ2_fastRemove 19 = .ok (.if_icmp .le 15, 3) := dk_164 0 15 (dk_at dksJ2_fastRemove_0 19 rfl rfl)
theorem dJ2_fastRemove_22 : decode cJ2_fastRemove 22 = .ok (.aload_n 1, 1) := dk_43 (dk_at dksJ2_fastRemove_0 22 rfl rfl)
theorem dJ2_fastRemove_23 : decode cJ2_fastRemove 23 = .ok (.iload_n 2, 1) := dk_28 (dk_at dksJ2_fastRemove_0 23 rfl rfl)
theorem dJ2_fastRemove_24 : decode cJ2_fastRemove 24 = .ok (.iconst 1, 1) := dk_4 (dk_at dksJ2_fastRemove_1 0 rfl rfl)
theorem dJ2_fastRemove_25 : decode cJ2_fastRemove 25 = .ok (.iadd, 1) := dk_96 (dk_at dksJ2_fastRemove_1 1 rfl rfl)
theorem dJ2_fastRemove_26 : decode cJ2_fastRemove 26 = .ok (.aload_n 1, 1) := dk_43 (dk_at dksJ2_fastRemove_1 2 rfl rfl)
theorem dJ2_fastRemove_27 : decode cJ2_fastRemove 27 = .ok (.iload_n 2, 1) := dk_28 (dk_at dksJ2_fastRemove_1 3 rfl rfl)
theorem dJ2_fastRemove_28 : decode cJ2_fastRemove 28 = .ok (.iload_n 3, 1) := dk_29 (dk_at dksJ2_fastRemove_1 4 rfl rfl)
theorem dJ2_fastRemove_29 : decode cJ2_fastRemove 29 = .ok (.iload_n 2, 1) := dk_28 (dk_at dksJ2_fastRemove_1 5 rfl rfl)
theorem dJ2_fastRemove_30 : decode cJ2_fastRemove 30 = .ok (.isub, 1) := dk_100 (dk_at dksJ2_fastRemove_1 6 rfl rfl)
theorem dJ2_fastRemove_31 : decode cJ2_fastRemove 31 = .ok (.invokestatic 112, 3) := dk_184 0 112 (dk_at dksJ2_fastRemove_1 7 rfl rfl)
theorem dJ2_fastRemove_34 : decode cJ2_fastRemove 34 = .ok (.aload_n 1, 1) := dk_43 (dk_at dksJ2_fastRemove_1 10 rfl rfl)
theorem dJ2_fastRemove_35 : decode cJ2_fastRemove 35 = .ok (.aload_n 0, 1) := dk_42 (dk_at dksJ2_fastRemove_1 11 rfl rfl)
theorem dJ2_fastRemove_36 : decode cJ2_fastRemove 36 = .ok (.iload_n 3, 1) := dk_29 (dk_at dksJ2_fastRemove_1 12 rfl rfl)
theorem dJ2_fastRemove_37 : decode cJ2_fastRemove 37 = .ok (.dup_x1, 1) := dk_90 (dk_at dksJ2_fastRemove_1 13 rfl rfl)
theorem dJ2_fastRemove_38 : decode cJ2_fastRemove 38 = .ok (.putfield 48, 3) := dk_181 0 48 (dk_at dksJ2_fastRemove_1 14 rfl rfl)
theorem dJ2_fastRemove_41 : decode cJ2_fastRemove 41 = .ok (.aconst_null, 1) := dk_1 (dk_at dksJ2_fastRemove_1 17 rfl rfl)
theorem dJ2_fastRemove_42 : decode cJ2_fastRemove 42 = .ok (.aastore, 1) := dk_83 (dk_at dksJ2_fastRemove_1 18 rfl rfl)
theorem dJ2_fastRemove_43 : decode cJ2_fastRemove 43 = .ok (.return_, 1) := dk_177 (dk_at dksJ2_fastRemove_1 19 rfl rfl)
theorem q111 : (Jvm.Cond.initialized "java/util/ArrayList") ∈ lw_all := lw_g (lw_at lw_m1 5 rfl) rfl
theorem q163 : (Jvm.Cond.instantiable "java/util/ArrayList" (3 : Nat)) ∈ lw_all := lw_g (lw_at lw_m1 57 rfl) rfl
theorem q165 : (Jvm.Cond.instanceMethod ({ cls := "java/util/ArrayList", name := "<init>", desc := "(I)V" } : Jvm.MethodName)) ∈ lw_all := lw_g (lw_at lw_m1 59 rfl) rfl
theorem q166 : (Jvm.Cond.code ({ cls := "java/util/ArrayList", name := "<init>", desc := "(I)V" } : Jvm.MethodName) prog_45_method_1_code (2 : Nat) (Option.none : Option Jvm.ClassFile.FieldType)) ∈ lw_all := lw_g (lw_at lw_m1 60 rfl) rfl
theorem q167 : (Jvm.Cond.methodLink "java/util/ArrayList" (1 : Nat) ({ cls := "java/util/AbstractList", name := "<init>", desc := "()V" } : Jvm.MethodName)) ∈ lw_all := lw_g (lw_at lw_m1 61 rfl) rfl
theorem q174 : (Jvm.Cond.classLink "java/util/ArrayList" (7 : Nat) "java/lang/Object") ∈ lw_all := lw_g (lw_at lw_m1 68 rfl) rfl
theorem q176 : (Jvm.Cond.fieldLink "java/util/ArrayList" (15 : Nat) "java/util/ArrayList" "EMPTY_ELEMENTDATA" "[Ljava/lang/Object;") ∈ lw_all := lw_g (lw_at lw_m1 70 rfl) rfl
theorem q177 : (Jvm.Cond.laysStatic "java/util/ArrayList" "EMPTY_ELEMENTDATA" "[Ljava/lang/Object;") ∈ lw_tbl := lw_at lw_m1 71 rfl
theorem q178 : (Jvm.Cond.classLink "java/util/ArrayList" (18 : Nat) "java/lang/IllegalArgumentException") ∈ lw_all := lw_g (lw_at lw_m1 72 rfl) rfl
theorem q219 : (Jvm.Cond.classLink "java/util/ArrayList" (20 : Nat) "java/lang/StringBuilder") ∈ lw_all := lw_g (lw_at lw_m1 113 rfl) rfl
theorem q221 : (Jvm.Cond.methodLink "java/util/ArrayList" (22 : Nat) ({ cls := "java/lang/StringBuilder", name := "<init>", desc := "()V" } : Jvm.MethodName)) ∈ lw_all := lw_g (lw_at lw_m1 115 rfl) rfl
theorem q251 : (Jvm.Cond.stringRef "java/util/ArrayList" (23 : Nat) "Illegal Capacity: ") ∈ lw_tbl := lw_at lw_m1 145 rfl
theorem q252 : (Jvm.Cond.methodLink "java/util/ArrayList" (25 : Nat) ({ cls := "java/lang/StringBuilder", name := "append", desc := "(Ljava/lang/String;)Ljava/lang/StringBuilder;" } : Jvm.MethodName)) ∈ lw_all := lw_g (lw_at lw_m1 146 rfl) rfl
theorem q372 : (Jvm.Cond.methodLink "java/util/ArrayList" (29 : Nat) ({ cls := "java/lang/StringBuilder", name := "append", desc := "(I)Ljava/lang/StringBuilder;" } : Jvm.MethodName)) ∈ lw_all := lw_g (lw_at lw_m2 26 rfl) rfl
theorem q397 : (Jvm.Cond.methodLink "java/util/ArrayList" (32 : Nat) ({ cls := "java/lang/StringBuilder", name := "toString", desc := "()Ljava/lang/String;" } : Jvm.MethodName)) ∈ lw_all := lw_g (lw_at lw_m2 51 rfl) rfl
theorem q489 : (Jvm.Cond.methodLink "java/util/ArrayList" (36 : Nat) ({ cls := "java/lang/IllegalArgumentException", name := "<init>", desc := "(Ljava/lang/String;)V" } : Jvm.MethodName)) ∈ lw_all := lw_g (lw_at lw_m2 143 rfl) rfl
theorem q490 : (Jvm.Cond.fieldLink "java/util/ArrayList" (9 : Nat) "java/util/ArrayList" "elementData" "[Ljava/lang/Object;") ∈ lw_all := lw_g (lw_at lw_m2 144 rfl) rfl
theorem q491 : (Jvm.Cond.fieldLink "java/util/ArrayList" (48 : Nat) "java/util/ArrayList" "size" "I") ∈ lw_all := lw_g (lw_at lw_m2 145 rfl) rfl
theorem q493 : (Jvm.Cond.fieldLink "java/util/ArrayList" (63 : Nat) "java/util/ArrayList" "modCount" "I") ∈ lw_all := lw_g (lw_at lw_m2 147 rfl) rfl
theorem q494 : (Jvm.Cond.sameField "java/util/ArrayList" "java/util/AbstractList" "modCount" "I") ∈ lw_all := lw_g (lw_at lw_m2 148 rfl) rfl
theorem q495 : (Jvm.Cond.lays "java/util/ArrayList" "java/util/ArrayList" "elementData" "[Ljava/lang/Object;") ∈ lw_all := lw_g (lw_at lw_m2 149 rfl) rfl
theorem q496 : (Jvm.Cond.soleField "java/util/ArrayList" "elementData") ∈ lw_all := lw_g (lw_at lw_m2 150 rfl) rfl
theorem q497 : (Jvm.Cond.lays "java/util/ArrayList" "java/util/ArrayList" "size" "I") ∈ lw_all := lw_g (lw_at lw_m2 151 rfl) rfl
theorem q498 : (Jvm.Cond.soleField "java/util/ArrayList" "size") ∈ lw_all := lw_g (lw_at lw_m2 152 rfl) rfl
theorem q499 : (Jvm.Cond.lays "java/util/ArrayList" "java/util/AbstractList" "modCount" "I") ∈ lw_all := lw_g (lw_at lw_m2 153 rfl) rfl
theorem q501 : (Jvm.Cond.superclass "java/util/ArrayList" "java/util/AbstractList") ∈ lw_all := lw_g (lw_at lw_m2 155 rfl) rfl
theorem q594 : (Jvm.Cond.instanceMethod ({ cls := "java/util/ArrayList", name := "add", desc := "(Ljava/lang/Object;)Z" } : Jvm.MethodName)) ∈ lw_all := lw_g (lw_at lw_m3 8 rfl) rfl
theorem q595 : (Jvm.Cond.selects "java/util/ArrayList" ({ cls := "java/util/ArrayList", name := "add", desc := "(Ljava/lang/Object;)Z" } : Jvm.MethodName) ({ cls := "java/util/ArrayList", name := "add", desc := "(Ljava/lang/Object;)Z" } : Jvm.MethodName)) ∈ lw_all := lw_g (lw_at lw_m3 9 rfl) rfl
theorem q596 : (Jvm.Cond.code ({ cls := "java/util/ArrayList", name := "add", desc := "(Ljava/lang/Object;)Z" } : Jvm.MethodName) prog_45_method_25_code (2 : Nat) (Option.some Jvm.ClassFile.FieldType.boolean)) ∈ lw_all := lw_g (lw_at lw_m3 10 rfl) rfl
theorem q597 : (Jvm.Cond.methodLink "java/util/ArrayList" (131 : Nat) ({ cls := "java/util/ArrayList", name := "add", desc := "(Ljava/lang/Object;[Ljava/lang/Object;I)V" } : Jvm.MethodName)) ∈ lw_all := lw_g (lw_at lw_m3 11 rfl) rfl
theorem q598 : (Jvm.Cond.privateMethod ({ cls := "java/util/ArrayList", name := "add", desc := "(Ljava/lang/Object;[Ljava/lang/Object;I)V" } : Jvm.MethodName)) ∈ lw_tbl := lw_at lw_m3 12 rfl
theorem q599 : (Jvm.Cond.instanceMethod ({ cls := "java/util/ArrayList", name := "add", desc := "(Ljava/lang/Object;[Ljava/lang/Object;I)V" } : Jvm.MethodName)) ∈ lw_all := lw_g (lw_at lw_m3 13 rfl) rfl
theorem q600 : (Jvm.Cond.code ({ cls := "java/util/ArrayList", name := "add", desc := "(Ljava/lang/Object;[Ljava/lang/Object;I)V" } : Jvm.MethodName) prog_45_method_24_code (4 : Nat) (Option.none : Option Jvm.ClassFile.FieldType)) ∈ lw_all := lw_g (lw_at lw_m3 14 rfl) rfl
theorem q601 : (Jvm.Cond.methodLink "java/util/ArrayList" (129 : Nat) ({ cls := "java/util/ArrayList", name := "grow", desc := "()[Ljava/lang/Object;" } : Jvm.MethodName)) ∈ lw_all := lw_g (lw_at lw_m3 15 rfl) rfl
theorem q602 : (Jvm.Cond.privateMethod ({ cls := "java/util/ArrayList", name := "grow", desc := "()[Ljava/lang/Object;" } : Jvm.MethodName)) ∈ lw_tbl := lw_at lw_m3 16 rfl
theorem q603 : (Jvm.Cond.instanceMethod ({ cls := "java/util/ArrayList", name := "grow", desc := "()[Ljava/lang/Object;" } : Jvm.MethodName)) ∈ lw_all := lw_g (lw_at lw_m3 17 rfl) rfl
theorem q604 : (Jvm.Cond.code ({ cls := "java/util/ArrayList", name := "grow", desc := "()[Ljava/lang/Object;" } : Jvm.MethodName) prog_45_method_7_code (1 : Nat) (Option.some (Jvm.ClassFile.FieldType.array (Jvm.ClassFile.FieldType.object "java/lang/Object")))) ∈ lw_all := lw_g (lw_at lw_m3 18 rfl) rfl
theorem q605 : (Jvm.Cond.methodLink "java/util/ArrayList" (69 : Nat) ({ cls := "java/util/ArrayList", name := "grow", desc := "(I)[Ljava/lang/Object;" } : Jvm.MethodName)) ∈ lw_all := lw_g (lw_at lw_m3 19 rfl) rfl
theorem q606 : (Jvm.Cond.privateMethod ({ cls := "java/util/ArrayList", name := "grow", desc := "(I)[Ljava/lang/Object;" } : Jvm.MethodName)) ∈ lw_tbl := lw_at lw_m3 20 rfl
theorem q607 : (Jvm.Cond.instanceMethod ({ cls := "java/util/ArrayList", name := "grow", desc := "(I)[Ljava/lang/Object;" } : Jvm.MethodName)) ∈ lw_all := lw_g (lw_at lw_m3 21 rfl) rfl
theorem q608 : (Jvm.Cond.code ({ cls := "java/util/ArrayList", name := "grow", desc := "(I)[Ljava/lang/Object;" } : Jvm.MethodName) prog_45_method_6_code (4 : Nat) (Option.some (Jvm.ClassFile.FieldType.array (Jvm.ClassFile.FieldType.object "java/lang/Object")))) ∈ lw_all := lw_g (lw_at lw_m3 22 rfl) rfl
theorem q609 : (Jvm.Cond.fieldLink "java/util/ArrayList" (39 : Nat) "java/util/ArrayList" "DEFAULTCAPACITY_EMPTY_ELEMENTDATA" "[Ljava/lang/Object;") ∈ lw_all := lw_g (lw_at lw_m3 23 rfl) rfl
theorem q610 : (Jvm.Cond.laysStatic "java/util/ArrayList" "DEFAULTCAPACITY_EMPTY_ELEMENTDATA" "[Ljava/lang/Object;") ∈ lw_tbl := lw_at lw_m3 24 rfl
theorem q611 : (Jvm.Cond.methodLink "java/util/ArrayList" (73 : Nat) ({ cls := "jdk/internal/util/ArraysSupport", name := "newLength", desc := "(III)I" } : Jvm.MethodName)) ∈ lw_all := lw_g (lw_at lw_m3 25 rfl) rfl
theorem q612 : (Jvm.Cond.methodLink "java/util/ArrayList" (66 : Nat) ({ cls := "java/util/Arrays", name := "copyOf", desc := "([Ljava/lang/Object;I)[Ljava/lang/Object;" } : Jvm.MethodName)) ∈ lw_all := lw_g (lw_at lw_m3 26 rfl) rfl
theorem q639 : (Jvm.Cond.selects "java/util/ArrayList" ({ cls := "java/lang/Object", name := "getClass", desc := "()Ljava/lang/Class;" } : Jvm.MethodName) ({ cls := "java/lang/Object", name := "getClass", desc := "()Ljava/lang/Class;" } : Jvm.MethodName)) ∈ lw_all := lw_g (lw_at lw_m3 53 rfl) rfl
theorem q647 : (Jvm.Cond.methodLink "java/util/ArrayList" (79 : Nat) ({ cls := "java/lang/Math", name := "max", desc := "(II)I" } : Jvm.MethodName)) ∈ lw_all := lw_g (lw_at lw_m3 61 rfl) rfl
theorem q684 : (Jvm.Cond.instanceMethod ({ cls := "java/util/ArrayList", name := "size", desc := "()I" } : Jvm.MethodName)) ∈ lw_all := lw_g (lw_at lw_m3 98 rfl) rfl
theorem q685 : (Jvm.Cond.selects "java/util/ArrayList" ({ cls := "java/util/ArrayList", name := "size", desc := "()I" } : Jvm.MethodName) ({ cls := "java/util/ArrayList", name := "size", desc := "()I" } : Jvm.MethodName)) ∈ lw_all := lw_g (lw_at lw_m3 99 rfl) rfl
theorem q686 : (Jvm.Cond.code ({ cls := "java/util/ArrayList", name := "size", desc := "()I" } : Jvm.MethodName) prog_45_method_8_code (1 : Nat) (Option.some Jvm.ClassFile.FieldType.int)) ∈ lw_all := lw_g (lw_at lw_m3 100 rfl) rfl
theorem q688 : (Jvm.Cond.instanceMethod ({ cls := "java/util/ArrayList", name := "get", desc := "(I)Ljava/lang/Object;" } : Jvm.MethodName)) ∈ lw_all := lw_g (lw_at lw_m3 102 rfl) rfl
theorem q689 : (Jvm.Cond.selects "java/util/ArrayList" ({ cls := "java/util/ArrayList", name := "get", desc := "(I)Ljava/lang/Object;" } : Jvm.MethodName) ({ cls := "java/util/ArrayList", name := "get", desc := "(I)Ljava/lang/Object;" } : Jvm.MethodName)) ∈ lw_all := lw_g (lw_at lw_m3 103 rfl) rfl
theorem q690 : (Jvm.Cond.code ({ cls := "java/util/ArrayList", name := "get", desc := "(I)Ljava/lang/Object;" } : Jvm.MethodName) prog_45_method_20_code (2 : Nat) (Option.some (Jvm.ClassFile.FieldType.object "java/lang/Object"))) ∈ lw_all := lw_g (lw_at lw_m3 104 rfl) rfl
theorem q691 : (Jvm.Cond.methodLink "java/util/ArrayList" (118 : Nat) ({ cls := "java/util/Objects", name := "checkIndex", desc := "(II)I" } : Jvm.MethodName)) ∈ lw_all := lw_g (lw_at lw_m3 105 rfl) rfl
theorem q697 : (Jvm.Cond.methodLink "java/util/ArrayList" (123 : Nat) ({ cls := "java/util/ArrayList", name := "elementData", desc := "(I)Ljava/lang/Object;" } : Jvm.MethodName)) ∈ lw_all := lw_g (lw_at lw_m3 111 rfl) rfl
theorem q698 : (Jvm.Cond.instanceMethod ({ cls := "java/util/ArrayList", name := "elementData", desc := "(I)Ljava/lang/Object;" } : Jvm.MethodName)) ∈ lw_all := lw_g (lw_at lw_m3 112 rfl) rfl
theorem q699 : (Jvm.Cond.selects "java/util/ArrayList" ({ cls := "java/util/ArrayList", name := "elementData", desc := "(I)Ljava/lang/Object;" } : Jvm.MethodName) ({ cls := "java/util/ArrayList", name := "elementData", desc := "(I)Ljava/lang/Object;" } : Jvm.MethodName)) ∈ lw_all := lw_g (lw_at lw_m3 113 rfl) rfl
theorem q700 : (Jvm.Cond.code ({ cls := "java/util/ArrayList", name := "elementData", desc := "(I)Ljava/lang/Object;" } : Jvm.MethodName) prog_45_method_18_code (2 : Nat) (Option.some (Jvm.ClassFile.FieldType.object "java/lang/Object"))) ∈ lw_all := lw_g (lw_at lw_m3 114 rfl) rfl
theorem q784 : (Jvm.Cond.instanceMethod ({ cls := "java/util/ArrayList", name := "remove", desc := "(I)Ljava/lang/Object;" } : Jvm.MethodName)) ∈ lw_all := lw_g (lw_at lw_m3 198 rfl) rfl
theorem q785 : (Jvm.Cond.selects "java/util/ArrayList" ({ cls := "java/util/ArrayList", name := "remove", desc := "(I)Ljava/lang/Object;" } : Jvm.MethodName) ({ cls := "java/util/ArrayList", name := "remove", desc := "(I)Ljava/lang/Object;" } : Jvm.MethodName)) ∈ lw_all := lw_g (lw_at lw_m3 199 rfl) rfl
theorem q786 : (Jvm.Cond.code ({ cls := "java/util/ArrayList", name := "remove", desc := "(I)Ljava/lang/Object;" } : Jvm.MethodName) prog_45_method_29_code (4 : Nat) (Option.some (Jvm.ClassFile.FieldType.object "java/lang/Object"))) ∈ lw_all := lw_g (lw_at lw_m3 200 rfl) rfl
theorem q787 : (Jvm.Cond.methodLink "java/util/ArrayList" (144 : Nat) ({ cls := "java/util/ArrayList", name := "fastRemove", desc := "([Ljava/lang/Object;I)V" } : Jvm.MethodName)) ∈ lw_all := lw_g (lw_at lw_m3 201 rfl) rfl
theorem q788 : (Jvm.Cond.privateMethod ({ cls := "java/util/ArrayList", name := "fastRemove", desc := "([Ljava/lang/Object;I)V" } : Jvm.MethodName)) ∈ lw_tbl := lw_at lw_m3 202 rfl
theorem q789 : (Jvm.Cond.instanceMethod ({ cls := "java/util/ArrayList", name := "fastRemove", desc := "([Ljava/lang/Object;I)V" } : Jvm.MethodName)) ∈ lw_all := lw_g (lw_at lw_m3 203 rfl) rfl
theorem q790 : (Jvm.Cond.code ({ cls := "java/util/ArrayList", name := "fastRemove", desc := "([Ljava/lang/Object;I)V" } : Jvm.MethodName) prog_45_method_39_code (4 : Nat) (Option.none : Option Jvm.ClassFile.FieldType)) ∈ lw_all := lw_g (lw_at lw_m3 204 rfl) rfl
theorem q791 : (Jvm.Cond.methodLink "java/util/ArrayList" (112 : Nat) ({ cls := "java/lang/System", name := "arraycopy", desc := "(Ljava/lang/Object;ILjava/lang/Object;II)V" } : Jvm.MethodName)) ∈ lw_all := lw_g (lw_at lw_m3 205 rfl) rfl
theorem q2396 : (Jvm.Cond.castable "java/util/ArrayList" "java/lang/Object") ∈ lw_tbl := lw_at lw_m10 130 rfl
theorem in_J2 : ∀ w ∈ wsJ20, w ∈ lw_all := lw_in wsJ20 [499, 495, 497] (by decide +kernel) (by decide +kernel)
/-! java/lang/Object -/
set_option maxRecDepth 100000
def RJ20 : String := "java/lang/Object"
abbrev cJ20_init : ByteArray := object_method_1_code
def yJ20_init : MethodName := ⟨RJ20, "<init>", "()V"⟩
theorem dJ20_init_0 : decode cJ20_init 0 = .ok (.return_, 1) := by decide +kernel
theorem q154 : (Jvm.Cond.instanceMethod ({ cls := "java/lang/Object", name := "<init>", desc := "()V" } : Jvm.MethodName)) ∈ lw_all := lw_g (lw_at lw_m1 48 rfl) rfl
theorem q155 : (Jvm.Cond.code ({ cls := "java/lang/Object", name := "<init>", desc := "()V" } : Jvm.MethodName) object_method_1_code (1 : Nat) (Option.none : Option Jvm.ClassFile.FieldType)) ∈ lw_all := lw_g (lw_at lw_m1 49 rfl) rfl
theorem q287 : (Jvm.Cond.native ({ cls := "java/lang/Object", name := "clone", desc := "()Ljava/lang/Object;" } : Jvm.MethodName)) ∈ lw_all := lw_g (lw_at lw_m1 181 rfl) rfl
theorem q288 : (Jvm.Cond.instanceMethod ({ cls := "java/lang/Object", name := "clone", desc := "()Ljava/lang/Object;" } : Jvm.MethodName)) ∈ lw_all := lw_g (lw_at lw_m1 182 rfl) rfl
theorem q616 : (Jvm.Cond.instanceMethod ({ cls := "java/lang/Object", name := "getClass", desc := "()Ljava/lang/Class;" } : Jvm.MethodName)) ∈ lw_all := lw_g (lw_at lw_m3 30 rfl) rfl
theorem q617 : (Jvm.Cond.sameMethod "java/lang/Object" "java/lang/Object" "getClass" "()Ljava/lang/Class;") ∈ lw_all := lw_g (lw_at lw_m3 31 rfl) rfl
theorem q641 : (Jvm.Cond.native ({ cls := "java/lang/Object", name := "getClass", desc := "()Ljava/lang/Class;" } : Jvm.MethodName)) ∈ lw_all := lw_g (lw_at lw_m3 55 rfl) rfl
theorem q2388 : (Jvm.Cond.initialized "java/lang/Object") ∈ lw_all := lw_g (lw_at lw_m10 122 rfl) rfl
theorem q2418 : (Jvm.Cond.declares ({ cls := "java/lang/Object", name := "getClass", desc := "()Ljava/lang/Class;" } : Jvm.MethodName)) ∈ lw_tbl := lw_at lw_m10 152 rfl
/-! java/lang/Throwable -/
set_option maxRecDepth 100000
def RJ3 : String := "java/lang/Throwable"
def TJ3 : u_T := fun k => match k with
  | 0 => ("java/lang/Throwable", "cause", "Ljava/lang/Throwable;", false)
  | 1 => ("java/lang/Throwable", "stackTrace", "[Ljava/lang/StackTraceElement;", false)
  | 2 => ("java/lang/Throwable", "suppressedExceptions", "Ljava/util/List;", false)
  | 3 => ("java/lang/Throwable", "detailMessage", "Ljava/lang/String;", false)
  | _ => ("java/lang/Throwable", "backtrace", "Ljava/lang/Object;", false)
def tyJ3 : Nat → FieldType := fun k => match k with
  | 0 => .object "java/lang/Throwable"
  | 1 => .array (.object "java/lang/StackTraceElement")
  | 2 => .object "java/util/List"
  | 3 => .object "java/lang/String"
  | _ => .object "java/lang/Object"
abbrev wsJ30 : List Cond := u_ws RJ3 TJ3 5
theorem nmJ3 : ∀ a, a < 5 → ∀ b, b < 5 → a ≠ b → (TJ3 a).2.1 ≠ (TJ3 b).2.1 := by decide +kernel
theorem tyJ3_ok : ∀ k, k < 5 → parseFieldDescriptor (TJ3 k).2.2.1 = some (tyJ3 k) := by decide +kernel
abbrev cJ3_init : ByteArray := prog_40_method_1_code
def yJ3_init : MethodName := ⟨RJ3, "<init>", "()V"⟩
def dkwJ3_init_1 : List UInt8 := [182, 0, 27, 87, 177]
abbrev dktJ3_init_1 : List UInt8 := dkwJ3_init_1 ++ []
def dkwJ3_init_0 : List UInt8 := [42, 183, 0, 1, 42, 42, 181, 0, 7, 42, 178, 0, 13, 181, 0, 17, 42, 178, 0, 20, 181, 0, 24, 42]
abbrev dktJ3_init_0 : List UInt8 := dkwJ3_init_0 ++ dktJ3_init_1
theorem dksJ3_init_0 : cJ3_init.data.toList.drop 0 = dktJ3_init_0 := by decide +kernel
theorem dksJ3_init_1 : cJ3_init.data.toList.drop 24 = dktJ3_init_1 := dk_seg dksJ3_init_0 24 rfl rfl
theorem dJ3_init_0 : decode cJ3_init 0 = .ok (.aload_n 0, 1) := dk_42 (dk_at dksJ3_init_0 0 rfl rfl)
theorem dJ3_init_1 : decode cJ3_init 1 = .ok (.invokespecial 1, 3) := dk_183 0 1 (dk_at dksJ3_init_0 1 rfl rfl)
theorem dJ3_init_4 : decode cJ3_init 4 = .ok (.aload_n 0, 1) := dk_42 (dk_at dksJ3_init_0 4 rfl rfl)
theorem dJ3_init_5 : decode cJ3_init 5 = .ok (.aload_n 0, 1) := dk_42 (dk_at dksJ3_init_0 5 rfl rfl)
theorem dJ3_init_6 : decode cJ3_init 6 = .ok (.putfield 7, 3) := dk_181 0 7 (dk_at dksJ3_init_0 6 rfl rfl)
theorem dJ3_init_9 : decode cJ3_init 9 = .ok (.aload_n 0, 1) := dk_42 (dk_at dksJ3_init_0 9 rfl rfl)
theorem dJ3_init_10 : decode cJ3_init 10 = .ok (.getstatic 13, 3) := dk_178 0 13 (dk_at dksJ3_init_0 10 rfl rfl)
theorem dJ3_init_13 : decode cJ3_init 13 = .ok (.putfield 17, 3) := dk_181 0 17 (dk_at dksJ3_init_0 13 rfl rfl)
theorem dJ3_init_16 : decode cJ3_init 16 = .ok (.aload_n 0, 1) := dk_42 (dk_at dksJ3_init_0 16 rfl rfl)
theorem dJ3_init_17 : decode cJ3_init 17 = .ok (.getstatic 20, 3) := dk_178 0 20 (dk_at dksJ3_init_0 17 rfl rfl)
theorem dJ3_init_20 : decode cJ3_init 20 = .ok (.putfield 24, 3) := dk_181 0 24 (dk_at dksJ3_init_0 20 rfl rfl)
theorem dJ3_init_23 : decode cJ3_init 23 = .ok (.aload_n 0, 1) := dk_42 (dk_at dksJ3_init_0 23 rfl rfl)
theorem dJ3_init_24 : decode cJ3_init 24 = .ok (.invokevirtual 27, 3) := dk_182 0 27 (dk_at dksJ3_init_1 0 rfl rfl)
theorem dJ3_init_27 : decode cJ3_init 27 = .ok (.pop, 1) := dk_87 (dk_at dksJ3_init_1 3 rfl rfl)
theorem dJ3_init_28 : decode cJ3_init 28 = .ok (.return_, 1) := dk_177 (dk_at dksJ3_init_1 4 rfl rfl)
abbrev cJ3_init_2 : ByteArray := prog_40_method_2_code
def yJ3_init_2 : MethodName := ⟨RJ3, "<init>", "(Ljava/lang/String;)V"⟩
def dkwJ3_init_2_1 : List UInt8 := [182, 0, 27, 87, 42, 43, 181, 0, 31, 177]
abbrev dktJ3_init_2_1 : List UInt8 := dkwJ3_init_2_1 ++ []
def dkwJ3_init_2_0 : List UInt8 := [42, 183, 0, 1, 42, 42, 181, 0, 7, 42, 178, 0, 13, 181, 0, 17, 42, 178, 0, 20, 181, 0, 24, 42]
abbrev dktJ3_init_2_0 : List UInt8 := dkwJ3_init_2_0 ++ dktJ3_init_2_1
theorem dksJ3_init_2_0 : cJ3_init_2.data.toList.drop 0 = dktJ3_init_2_0 := by decide +kernel
theorem dksJ3_init_2_1 : cJ3_init_2.data.toList.drop 24 = dktJ3_init_2_1 := dk_seg dksJ3_init_2_0 24 rfl rfl
theorem dJ3_init_2_0 : decode cJ3_init_2 0 = .ok (.aload_n 0, 1) := dk_42 (dk_at dksJ3_init_2_0 0 rfl rfl)
theorem dJ3_init_2_1 : decode cJ3_init_2 1 = .ok (.invokespecial 1, 3) := dk_183 0 1 (dk_at dksJ3_init_2_0 1 rfl rfl)
theorem dJ3_init_2_4 : decode cJ3_init_2 4 = .ok (.aload_n 0, 1) := dk_42 (dk_at dksJ3_init_2_0 4 rfl rfl)
theorem dJ3_init_2_5 : decode cJ3_init_2 5 = .ok (.aload_n 0, 1) := dk_42 (dk_at dksJ3_init_2_0 5 rfl rfl)
theorem dJ3_init_2_6 : decode cJ3_init_2 6 = .ok (.putfield 7, 3) := dk_181 0 7 (dk_at dksJ3_init_2_0 6 rfl rfl)
theorem dJ3_init_2_9 : decode cJ3_init_2 9 = .ok (.aload_n 0, 1) := dk_42 (dk_at dksJ3_init_2_0 9 rfl rfl)
theorem dJ3_init_2_10 : decode cJ3_init_2 10 = .ok (.getstatic 13, 3) := dk_178 0 13 (dk_at dksJ3_init_2_0 10 rfl rfl)
theorem dJ3_init_2_13 : decode cJ3_init_2 13 = .ok (.putfield 17, 3) := dk_181 0 17 (dk_at dksJ3_init_2_0 13 rfl rfl)
theorem dJ3_init_2_16 : decode cJ3_init_2 16 = .ok (.aload_n 0, 1) := dk_42 (dk_at dksJ3_init_2_0 16 rfl rfl)
theorem dJ3_init_2_17 : decode cJ3_init_2 17 = .ok (.getstatic 20, 3) := dk_178 0 20 (dk_at dksJ3_init_2_0 17 rfl rfl)
theorem dJ3_init_2_20 : decode cJ3_init_2 20 = .ok (.putfield 24, 3) := dk_181 0 24 (dk_at dksJ3_init_2_0 20 rfl rfl)
theorem dJ3_init_2_23 : decode cJ3_init_2 23 = .ok (.aload_n 0, 1) := dk_42 (dk_at dksJ3_init_2_0 23 rfl rfl)
theorem dJ3_init_2_24 : decode cJ3_init_2 24 = .ok (.invokevirtual 27, 3) := dk_182 0 27 (dk_at dksJ3_init_2_1 0 rfl rfl)
theorem dJ3_init_2_27 : decode cJ3_init_2 27 = .ok (.pop, 1) := dk_87 (dk_at dksJ3_init_2_1 3 rfl rfl)
theorem dJ3_init_2_28 : decode cJ3_init_2 28 = .ok (.aload_n 0, 1) := dk_42 (dk_at dksJ3_init_2_1 4 rfl rfl)
theorem dJ3_init_2_29 : decode cJ3_init_2 29 = .ok (.aload_n 1, 1) := dk_43 (dk_at dksJ3_init_2_1 5 rfl rfl)
theorem dJ3_init_2_30 : decode cJ3_init_2 30 = .ok (.putfield 31, 3) := dk_181 0 31 (dk_at dksJ3_init_2_1 6 rfl rfl)
theorem dJ3_init_2_33 : decode cJ3_init_2 33 = .ok (.return_, 1) := dk_177 (dk_at dksJ3_init_2_1 9 rfl rfl)
theorem q112 : (Jvm.Cond.initialized "java/lang/Throwable") ∈ lw_all := lw_g (lw_at lw_m1 6 rfl) rfl
theorem q185 : (Jvm.Cond.declares ({ cls := "java/lang/Throwable", name := "<init>", desc := "()V" } : Jvm.MethodName)) ∈ lw_tbl := lw_at lw_m1 79 rfl
theorem q186 : (Jvm.Cond.declares ({ cls := "java/lang/Throwable", name := "<init>", desc := "(Ljava/lang/String;)V" } : Jvm.MethodName)) ∈ lw_tbl := lw_at lw_m1 80 rfl
theorem q190 : (Jvm.Cond.lays "java/lang/Throwable" "java/lang/Throwable" "cause" "Ljava/lang/Throwable;") ∈ lw_all := lw_g (lw_at lw_m1 84 rfl) rfl
theorem q192 : (Jvm.Cond.lays "java/lang/Throwable" "java/lang/Throwable" "stackTrace" "[Ljava/lang/StackTraceElement;") ∈ lw_all := lw_g (lw_at lw_m1 86 rfl) rfl
theorem q194 : (Jvm.Cond.lays "java/lang/Throwable" "java/lang/Throwable" "suppressedExceptions" "Ljava/util/List;") ∈ lw_all := lw_g (lw_at lw_m1 88 rfl) rfl
theorem q196 : (Jvm.Cond.lays "java/lang/Throwable" "java/lang/Throwable" "detailMessage" "Ljava/lang/String;") ∈ lw_all := lw_g (lw_at lw_m1 90 rfl) rfl
theorem q198 : (Jvm.Cond.lays "java/lang/Throwable" "java/lang/Throwable" "backtrace" "Ljava/lang/Object;") ∈ lw_all := lw_g (lw_at lw_m1 92 rfl) rfl
theorem q199 : (Jvm.Cond.fieldLink "java/lang/Throwable" (198 : Nat) "java/lang/Throwable" "backtrace" "Ljava/lang/Object;") ∈ lw_all := lw_g (lw_at lw_m1 93 rfl) rfl
theorem q200 : (Jvm.Cond.superclass "java/lang/Throwable" "java/lang/Object") ∈ lw_all := lw_g (lw_at lw_m1 94 rfl) rfl
theorem q201 : (Jvm.Cond.instanceMethod ({ cls := "java/lang/Throwable", name := "<init>", desc := "()V" } : Jvm.MethodName)) ∈ lw_all := lw_g (lw_at lw_m1 95 rfl) rfl
theorem q202 : (Jvm.Cond.code ({ cls := "java/lang/Throwable", name := "<init>", desc := "()V" } : Jvm.MethodName) prog_40_method_1_code (1 : Nat) (Option.none : Option Jvm.ClassFile.FieldType)) ∈ lw_all := lw_g (lw_at lw_m1 96 rfl) rfl
theorem q203 : (Jvm.Cond.methodLink "java/lang/Throwable" (1 : Nat) ({ cls := "java/lang/Object", name := "<init>", desc := "()V" } : Jvm.MethodName)) ∈ lw_all := lw_g (lw_at lw_m1 97 rfl) rfl
theorem q204 : (Jvm.Cond.fieldLink "java/lang/Throwable" (13 : Nat) "java/lang/Throwable" "UNASSIGNED_STACK" "[Ljava/lang/StackTraceElement;") ∈ lw_all := lw_g (lw_at lw_m1 98 rfl) rfl
theorem q205 : (Jvm.Cond.laysStatic "java/lang/Throwable" "UNASSIGNED_STACK" "[Ljava/lang/StackTraceElement;") ∈ lw_tbl := lw_at lw_m1 99 rfl
theorem q206 : (Jvm.Cond.fieldLink "java/lang/Throwable" (20 : Nat) "java/lang/Throwable" "SUPPRESSED_SENTINEL" "Ljava/util/List;") ∈ lw_all := lw_g (lw_at lw_m1 100 rfl) rfl
theorem q207 : (Jvm.Cond.laysStatic "java/lang/Throwable" "SUPPRESSED_SENTINEL" "Ljava/util/List;") ∈ lw_tbl := lw_at lw_m1 101 rfl
theorem q208 : (Jvm.Cond.methodLink "java/lang/Throwable" (27 : Nat) ({ cls := "java/lang/Throwable", name := "fillInStackTrace", desc := "()Ljava/lang/Throwable;" } : Jvm.MethodName)) ∈ lw_all := lw_g (lw_at lw_m1 102 rfl) rfl
theorem q209 : (Jvm.Cond.instanceMethod ({ cls := "java/lang/Throwable", name := "fillInStackTrace", desc := "()Ljava/lang/Throwable;" } : Jvm.MethodName)) ∈ lw_all := lw_g (lw_at lw_m1 103 rfl) rfl
theorem q210 : (Jvm.Cond.sameMethod "java/lang/Throwable" "java/lang/Throwable" "fillInStackTrace" "()Ljava/lang/Throwable;") ∈ lw_all := lw_g (lw_at lw_m1 104 rfl) rfl
theorem q213 : (Jvm.Cond.codeSync ({ cls := "java/lang/Throwable", name := "fillInStackTrace", desc := "()Ljava/lang/Throwable;" } : Jvm.MethodName) prog_40_method_18_code (1 : Nat) (Option.some (Jvm.ClassFile.FieldType.object "java/lang/Throwable"))) ∈ lw_all := lw_g (lw_at lw_m1 107 rfl) rfl
theorem q214 : (Jvm.Cond.methodLink "java/lang/Throwable" (202 : Nat) ({ cls := "java/lang/Throwable", name := "fillInStackTrace", desc := "(I)Ljava/lang/Throwable;" } : Jvm.MethodName)) ∈ lw_all := lw_g (lw_at lw_m1 108 rfl) rfl
theorem q215 : (Jvm.Cond.privateMethod ({ cls := "java/lang/Throwable", name := "fillInStackTrace", desc := "(I)Ljava/lang/Throwable;" } : Jvm.MethodName)) ∈ lw_tbl := lw_at lw_m1 109 rfl
theorem q216 : (Jvm.Cond.instanceMethod ({ cls := "java/lang/Throwable", name := "fillInStackTrace", desc := "(I)Ljava/lang/Throwable;" } : Jvm.MethodName)) ∈ lw_all := lw_g (lw_at lw_m1 110 rfl) rfl
theorem q217 : (Jvm.Cond.instantiable "java/lang/Throwable" (6 : Nat)) ∈ lw_all := lw_g (lw_at lw_m1 111 rfl) rfl
theorem q218 : (Jvm.Cond.native ({ cls := "java/lang/Throwable", name := "fillInStackTrace", desc := "(I)Ljava/lang/Throwable;" } : Jvm.MethodName)) ∈ lw_all := lw_g (lw_at lw_m1 112 rfl) rfl
theorem q450 : (Jvm.Cond.instanceMethod ({ cls := "java/lang/Throwable", name := "<init>", desc := "(Ljava/lang/String;)V" } : Jvm.MethodName)) ∈ lw_all := lw_g (lw_at lw_m2 104 rfl) rfl
theorem q451 : (Jvm.Cond.code ({ cls := "java/lang/Throwable", name := "<init>", desc := "(Ljava/lang/String;)V" } : Jvm.MethodName) prog_40_method_2_code (2 : Nat) (Option.none : Option Jvm.ClassFile.FieldType)) ∈ lw_all := lw_g (lw_at lw_m2 105 rfl) rfl
theorem q452 : (Jvm.Cond.fieldLink "java/lang/Throwable" (198 : Nat) "java/lang/Throwable" "backtrace" "Ljava/lang/Object;") ∈ lw_all := lw_g (lw_at lw_m2 106 rfl) rfl
theorem q453 : (Jvm.Cond.fieldLink "java/lang/Throwable" (31 : Nat) "java/lang/Throwable" "detailMessage" "Ljava/lang/String;") ∈ lw_all := lw_g (lw_at lw_m2 107 rfl) rfl
theorem q454 : (Jvm.Cond.fieldLink "java/lang/Throwable" (7 : Nat) "java/lang/Throwable" "cause" "Ljava/lang/Throwable;") ∈ lw_all := lw_g (lw_at lw_m2 108 rfl) rfl
theorem q455 : (Jvm.Cond.fieldLink "java/lang/Throwable" (17 : Nat) "java/lang/Throwable" "stackTrace" "[Ljava/lang/StackTraceElement;") ∈ lw_all := lw_g (lw_at lw_m2 109 rfl) rfl
theorem q456 : (Jvm.Cond.fieldLink "java/lang/Throwable" (24 : Nat) "java/lang/Throwable" "suppressedExceptions" "Ljava/util/List;") ∈ lw_all := lw_g (lw_at lw_m2 110 rfl) rfl
theorem q457 : (Jvm.Cond.soleField "java/lang/Throwable" "backtrace") ∈ lw_all := lw_g (lw_at lw_m2 111 rfl) rfl
theorem q458 : (Jvm.Cond.soleField "java/lang/Throwable" "detailMessage") ∈ lw_all := lw_g (lw_at lw_m2 112 rfl) rfl
theorem q459 : (Jvm.Cond.soleField "java/lang/Throwable" "cause") ∈ lw_all := lw_g (lw_at lw_m2 113 rfl) rfl
theorem q460 : (Jvm.Cond.soleField "java/lang/Throwable" "stackTrace") ∈ lw_all := lw_g (lw_at lw_m2 114 rfl) rfl
theorem q462 : (Jvm.Cond.soleField "java/lang/Throwable" "depth") ∈ lw_all := lw_g (lw_at lw_m2 116 rfl) rfl
theorem q463 : (Jvm.Cond.soleField "java/lang/Throwable" "suppressedExceptions") ∈ lw_all := lw_g (lw_at lw_m2 117 rfl) rfl
theorem q2375 : (Jvm.Cond.sameMethod "java/lang/Throwable" "java/lang/Throwable" "fillInStackTrace" "(I)Ljava/lang/Throwable;") ∈ lw_all := lw_g (lw_at lw_m10 109 rfl) rfl
theorem q2415 : (Jvm.Cond.castable "java/lang/Throwable" "java/lang/Object") ∈ lw_tbl := lw_at lw_m10 149 rfl
theorem in_J3 : ∀ w ∈ wsJ30, w ∈ lw_all := lw_in wsJ30 [190, 192, 194, 196, 198] (by decide +kernel) (by decide +kernel)
/-! java/lang/Exception -/
set_option maxRecDepth 100000
def RJ4 : String := "java/lang/Exception"
abbrev cJ4_init : ByteArray := prog_28_method_2_code
def yJ4_init : MethodName := ⟨RJ4, "<init>", "(Ljava/lang/String;)V"⟩
def dkwJ4_init_0 : List UInt8 := [42, 43, 183, 0, 7, 177]
abbrev dktJ4_init_0 : List UInt8 := dkwJ4_init_0 ++ []
theorem dksJ4_init_0 : cJ4_init.data.toList.drop 0 = dktJ4_init_0 := by decide +kernel
theorem dJ4_init_0 : decode cJ4_init 0 = .ok (.aload_n 0, 1) := dk_42 (dk_at dksJ4_init_0 0 rfl rfl)
theorem dJ4_init_1 : decode cJ4_init 1 = .ok (.aload_n 1, 1) := dk_43 (dk_at dksJ4_init_0 1 rfl rfl)
theorem dJ4_init_2 : decode cJ4_init 2 = .ok (.invokespecial 7, 3) := dk_183 0 7 (dk_at dksJ4_init_0 2 rfl rfl)
theorem dJ4_init_5 : decode cJ4_init 5 = .ok (.return_, 1) := dk_177 (dk_at dksJ4_init_0 5 rfl rfl)
abbrev cJ4_init_2 : ByteArray := prog_28_method_1_code
def yJ4_init_2 : MethodName := ⟨RJ4, "<init>", "()V"⟩
theorem dJ4_init_2_0 : decode cJ4_init_2 0 = .ok (.aload_n 0, 1) := by decide +kernel
theorem dJ4_init_2_1 : decode cJ4_init_2 1 = .ok (.invokespecial 1, 3) := by decide +kernel
theorem dJ4_init_2_4 : decode cJ4_init_2 4 = .ok (.return_, 1) := by decide +kernel
theorem q113 : (Jvm.Cond.initialized "java/lang/Exception") ∈ lw_all := lw_g (lw_at lw_m1 7 rfl) rfl
theorem q183 : (Jvm.Cond.declares ({ cls := "java/lang/Exception", name := "<init>", desc := "()V" } : Jvm.MethodName)) ∈ lw_tbl := lw_at lw_m1 77 rfl
theorem q184 : (Jvm.Cond.declares ({ cls := "java/lang/Exception", name := "<init>", desc := "(Ljava/lang/String;)V" } : Jvm.MethodName)) ∈ lw_tbl := lw_at lw_m1 78 rfl
theorem q447 : (Jvm.Cond.instanceMethod ({ cls := "java/lang/Exception", name := "<init>", desc := "(Ljava/lang/String;)V" } : Jvm.MethodName)) ∈ lw_all := lw_g (lw_at lw_m2 101 rfl) rfl
theorem q448 : (Jvm.Cond.code ({ cls := "java/lang/Exception", name := "<init>", desc := "(Ljava/lang/String;)V" } : Jvm.MethodName) prog_28_method_2_code (2 : Nat) (Option.none : Option Jvm.ClassFile.FieldType)) ∈ lw_all := lw_g (lw_at lw_m2 102 rfl) rfl
theorem q449 : (Jvm.Cond.methodLink "java/lang/Exception" (7 : Nat) ({ cls := "java/lang/Throwable", name := "<init>", desc := "(Ljava/lang/String;)V" } : Jvm.MethodName)) ∈ lw_all := lw_g (lw_at lw_m2 103 rfl) rfl
theorem q1149 : (Jvm.Cond.instanceMethod ({ cls := "java/lang/Exception", name := "<init>", desc := "()V" } : Jvm.MethodName)) ∈ lw_all := lw_g (lw_at lw_m5 83 rfl) rfl
theorem q1150 : (Jvm.Cond.code ({ cls := "java/lang/Exception", name := "<init>", desc := "()V" } : Jvm.MethodName) prog_28_method_1_code (1 : Nat) (Option.none : Option Jvm.ClassFile.FieldType)) ∈ lw_all := lw_g (lw_at lw_m5 84 rfl) rfl
theorem q1151 : (Jvm.Cond.methodLink "java/lang/Exception" (1 : Nat) ({ cls := "java/lang/Throwable", name := "<init>", desc := "()V" } : Jvm.MethodName)) ∈ lw_all := lw_g (lw_at lw_m5 85 rfl) rfl
/-! java/lang/RuntimeException -/
set_option maxRecDepth 100000
def RJ5 : String := "java/lang/RuntimeException"
abbrev cJ5_init : ByteArray := prog_34_method_2_code
def yJ5_init : MethodName := ⟨RJ5, "<init>", "(Ljava/lang/String;)V"⟩
def dkwJ5_init_0 : List UInt8 := [42, 43, 183, 0, 7, 177]
abbrev dktJ5_init_0 : List UInt8 := dkwJ5_init_0 ++ []
theorem dksJ5_init_0 : cJ5_init.data.toList.drop 0 = dktJ5_init_0 := by decide +kernel
theorem dJ5_init_0 : decode cJ5_init 0 = .ok (.aload_n 0, 1) := dk_42 (dk_at dksJ5_init_0 0 rfl rfl)
theorem dJ5_init_1 : decode cJ5_init 1 = .ok (.aload_n 1, 1) := dk_43 (dk_at dksJ5_init_0 1 rfl rfl)
theorem dJ5_init_2 : decode cJ5_init 2 = .ok (.invokespecial 7, 3) := dk_183 0 7 (dk_at dksJ5_init_0 2 rfl rfl)
theorem dJ5_init_5 : decode cJ5_init 5 = .ok (.return_, 1) := dk_177 (dk_at dksJ5_init_0 5 rfl rfl)
abbrev cJ5_init_2 : ByteArray := prog_34_method_1_code
def yJ5_init_2 : MethodName := ⟨RJ5, "<init>", "()V"⟩
theorem dJ5_init_2_0 : decode cJ5_init_2 0 = .ok (.aload_n 0, 1) := by decide +kernel
theorem dJ5_init_2_1 : decode cJ5_init_2 1 = .ok (.invokespecial 1, 3) := by decide +kernel
theorem dJ5_init_2_4 : decode cJ5_init_2 4 = .ok (.return_, 1) := by decide +kernel
theorem q114 : (Jvm.Cond.initialized "java/lang/RuntimeException") ∈ lw_all := lw_g (lw_at lw_m1 8 rfl) rfl
theorem q181 : (Jvm.Cond.declares ({ cls := "java/lang/RuntimeException", name := "<init>", desc := "()V" } : Jvm.MethodName)) ∈ lw_tbl := lw_at lw_m1 75 rfl
theorem q182 : (Jvm.Cond.declares ({ cls := "java/lang/RuntimeException", name := "<init>", desc := "(Ljava/lang/String;)V" } : Jvm.MethodName)) ∈ lw_tbl := lw_at lw_m1 76 rfl
theorem q444 : (Jvm.Cond.instanceMethod ({ cls := "java/lang/RuntimeException", name := "<init>", desc := "(Ljava/lang/String;)V" } : Jvm.MethodName)) ∈ lw_all := lw_g (lw_at lw_m2 98 rfl) rfl
theorem q445 : (Jvm.Cond.code ({ cls := "java/lang/RuntimeException", name := "<init>", desc := "(Ljava/lang/String;)V" } : Jvm.MethodName) prog_34_method_2_code (2 : Nat) (Option.none : Option Jvm.ClassFile.FieldType)) ∈ lw_all := lw_g (lw_at lw_m2 99 rfl) rfl
theorem q446 : (Jvm.Cond.methodLink "java/lang/RuntimeException" (7 : Nat) ({ cls := "java/lang/Exception", name := "<init>", desc := "(Ljava/lang/String;)V" } : Jvm.MethodName)) ∈ lw_all := lw_g (lw_at lw_m2 100 rfl) rfl
theorem q1146 : (Jvm.Cond.instanceMethod ({ cls := "java/lang/RuntimeException", name := "<init>", desc := "()V" } : Jvm.MethodName)) ∈ lw_all := lw_g (lw_at lw_m5 80 rfl) rfl
theorem q1147 : (Jvm.Cond.code ({ cls := "java/lang/RuntimeException", name := "<init>", desc := "()V" } : Jvm.MethodName) prog_34_method_1_code (1 : Nat) (Option.none : Option Jvm.ClassFile.FieldType)) ∈ lw_all := lw_g (lw_at lw_m5 81 rfl) rfl
theorem q1148 : (Jvm.Cond.methodLink "java/lang/RuntimeException" (1 : Nat) ({ cls := "java/lang/Exception", name := "<init>", desc := "()V" } : Jvm.MethodName)) ∈ lw_all := lw_g (lw_at lw_m5 82 rfl) rfl
/-! java/lang/IllegalArgumentException -/
set_option maxRecDepth 100000
def RJ6 : String := "java/lang/IllegalArgumentException"
def TJ6 : u_T := fun k => match k with
  | 0 => ("java/lang/Throwable", "cause", "Ljava/lang/Throwable;", false)
  | 1 => ("java/lang/Throwable", "stackTrace", "[Ljava/lang/StackTraceElement;", false)
  | 2 => ("java/lang/Throwable", "suppressedExceptions", "Ljava/util/List;", false)
  | 3 => ("java/lang/Throwable", "detailMessage", "Ljava/lang/String;", false)
  | 4 => ("java/lang/Throwable", "backtrace", "Ljava/lang/Object;", false)
  | _ => ("java/lang/Throwable", "depth", "I", false)
def tyJ6 : Nat → FieldType := fun k => match k with
  | 0 => .object "java/lang/Throwable"
  | 1 => .array (.object "java/lang/StackTraceElement")
  | 2 => .object "java/util/List"
  | 3 => .object "java/lang/String"
  | 4 => .object "java/lang/Object"
  | _ => .int
abbrev wsJ60 : List Cond := u_ws RJ6 TJ6 6
theorem nmJ6 : ∀ a, a < 6 → ∀ b, b < 6 → a ≠ b → (TJ6 a).2.1 ≠ (TJ6 b).2.1 := by decide +kernel
theorem tyJ6_ok : ∀ k, k < 6 → parseFieldDescriptor (TJ6 k).2.2.1 = some (tyJ6 k) := by decide +kernel
abbrev cJ6_init : ByteArray := prog_29_method_2_code
def yJ6_init : MethodName := ⟨RJ6, "<init>", "(Ljava/lang/String;)V"⟩
def dkwJ6_init_0 : List UInt8 := [42, 43, 183, 0, 7, 177]
abbrev dktJ6_init_0 : List UInt8 := dkwJ6_init_0 ++ []
theorem dksJ6_init_0 : cJ6_init.data.toList.drop 0 = dktJ6_init_0 := by decide +kernel
theorem dJ6_init_0 : decode cJ6_init 0 = .ok (.aload_n 0, 1) := dk_42 (dk_at dksJ6_init_0 0 rfl rfl)
theorem dJ6_init_1 : decode cJ6_init 1 = .ok (.aload_n 1, 1) := dk_43 (dk_at dksJ6_init_0 1 rfl rfl)
theorem dJ6_init_2 : decode cJ6_init 2 = .ok (.invokespecial 7, 3) := dk_183 0 7 (dk_at dksJ6_init_0 2 rfl rfl)
theorem dJ6_init_5 : decode cJ6_init 5 = .ok (.return_, 1) := dk_177 (dk_at dksJ6_init_0 5 rfl rfl)
abbrev cJ6_init_2 : ByteArray := prog_29_method_1_code
def yJ6_init_2 : MethodName := ⟨RJ6, "<init>", "()V"⟩
theorem dJ6_init_2_0 : decode cJ6_init_2 0 = .ok (.aload_n 0, 1) := by decide +kernel
theorem dJ6_init_2_1 : decode cJ6_init_2 1 = .ok (.invokespecial 1, 3) := by decide +kernel
theorem dJ6_init_2_4 : decode cJ6_init_2 4 = .ok (.return_, 1) := by decide +kernel
theorem q115 : (Jvm.Cond.initialized "java/lang/IllegalArgumentException") ∈ lw_all := lw_g (lw_at lw_m1 9 rfl) rfl
theorem q179 : (Jvm.Cond.instantiable "java/lang/IllegalArgumentException" (6 : Nat)) ∈ lw_all := lw_g (lw_at lw_m1 73 rfl) rfl
theorem q180 : (Jvm.Cond.castable "java/lang/IllegalArgumentException" "java/lang/IllegalArgumentException") ∈ lw_tbl := lw_at lw_m1 74 rfl
theorem q187 : (Jvm.Cond.selects "java/lang/IllegalArgumentException" ({ cls := "java/lang/Throwable", name := "fillInStackTrace", desc := "(I)Ljava/lang/Throwable;" } : Jvm.MethodName) ({ cls := "java/lang/Throwable", name := "fillInStackTrace", desc := "(I)Ljava/lang/Throwable;" } : Jvm.MethodName)) ∈ lw_all := lw_g (lw_at lw_m1 81 rfl) rfl
theorem q188 : (Jvm.Cond.selects "java/lang/IllegalArgumentException" ({ cls := "java/lang/Throwable", name := "fillInStackTrace", desc := "()Ljava/lang/Throwable;" } : Jvm.MethodName) ({ cls := "java/lang/Throwable", name := "fillInStackTrace", desc := "()Ljava/lang/Throwable;" } : Jvm.MethodName)) ∈ lw_all := lw_g (lw_at lw_m1 82 rfl) rfl
theorem q189 : (Jvm.Cond.lays "java/lang/IllegalArgumentException" "java/lang/Throwable" "cause" "Ljava/lang/Throwable;") ∈ lw_all := lw_g (lw_at lw_m1 83 rfl) rfl
theorem q191 : (Jvm.Cond.lays "java/lang/IllegalArgumentException" "java/lang/Throwable" "stackTrace" "[Ljava/lang/StackTraceElement;") ∈ lw_all := lw_g (lw_at lw_m1 85 rfl) rfl
theorem q193 : (Jvm.Cond.lays "java/lang/IllegalArgumentException" "java/lang/Throwable" "suppressedExceptions" "Ljava/util/List;") ∈ lw_all := lw_g (lw_at lw_m1 87 rfl) rfl
theorem q195 : (Jvm.Cond.lays "java/lang/IllegalArgumentException" "java/lang/Throwable" "detailMessage" "Ljava/lang/String;") ∈ lw_all := lw_g (lw_at lw_m1 89 rfl) rfl
theorem q197 : (Jvm.Cond.lays "java/lang/IllegalArgumentException" "java/lang/Throwable" "backtrace" "Ljava/lang/Object;") ∈ lw_all := lw_g (lw_at lw_m1 91 rfl) rfl
theorem q441 : (Jvm.Cond.instanceMethod ({ cls := "java/lang/IllegalArgumentException", name := "<init>", desc := "(Ljava/lang/String;)V" } : Jvm.MethodName)) ∈ lw_all := lw_g (lw_at lw_m2 95 rfl) rfl
theorem q442 : (Jvm.Cond.code ({ cls := "java/lang/IllegalArgumentException", name := "<init>", desc := "(Ljava/lang/String;)V" } : Jvm.MethodName) prog_29_method_2_code (2 : Nat) (Option.none : Option Jvm.ClassFile.FieldType)) ∈ lw_all := lw_g (lw_at lw_m2 96 rfl) rfl
theorem q443 : (Jvm.Cond.methodLink "java/lang/IllegalArgumentException" (7 : Nat) ({ cls := "java/lang/RuntimeException", name := "<init>", desc := "(Ljava/lang/String;)V" } : Jvm.MethodName)) ∈ lw_all := lw_g (lw_at lw_m2 97 rfl) rfl
theorem q461 : (Jvm.Cond.lays "java/lang/IllegalArgumentException" "java/lang/Throwable" "depth" "I") ∈ lw_all := lw_g (lw_at lw_m2 115 rfl) rfl
theorem q464 : (Jvm.Cond.superclass "java/lang/IllegalArgumentException" "java/lang/RuntimeException") ∈ lw_all := lw_g (lw_at lw_m2 118 rfl) rfl
theorem q636 : (Jvm.Cond.selects "java/lang/IllegalArgumentException" ({ cls := "java/lang/Object", name := "getClass", desc := "()Ljava/lang/Class;" } : Jvm.MethodName) ({ cls := "java/lang/Object", name := "getClass", desc := "()Ljava/lang/Class;" } : Jvm.MethodName)) ∈ lw_all := lw_g (lw_at lw_m3 50 rfl) rfl
theorem q1143 : (Jvm.Cond.instanceMethod ({ cls := "java/lang/IllegalArgumentException", name := "<init>", desc := "()V" } : Jvm.MethodName)) ∈ lw_all := lw_g (lw_at lw_m5 77 rfl) rfl
theorem q1144 : (Jvm.Cond.code ({ cls := "java/lang/IllegalArgumentException", name := "<init>", desc := "()V" } : Jvm.MethodName) prog_29_method_1_code (1 : Nat) (Option.none : Option Jvm.ClassFile.FieldType)) ∈ lw_all := lw_g (lw_at lw_m5 78 rfl) rfl
theorem q1145 : (Jvm.Cond.methodLink "java/lang/IllegalArgumentException" (1 : Nat) ({ cls := "java/lang/RuntimeException", name := "<init>", desc := "()V" } : Jvm.MethodName)) ∈ lw_all := lw_g (lw_at lw_m5 79 rfl) rfl
theorem q2397 : (Jvm.Cond.castable "java/lang/IllegalArgumentException" "java/lang/Object") ∈ lw_tbl := lw_at lw_m10 131 rfl
theorem in_J6 : ∀ w ∈ wsJ60, w ∈ lw_all := lw_in wsJ60 [189, 191, 193, 195, 197, 461] (by decide +kernel) (by decide +kernel)
/-! java/lang/AbstractStringBuilder -/
set_option maxRecDepth 100000
def RJ7 : String := "java/lang/AbstractStringBuilder"
abbrev cJ7_init : ByteArray := prog_22_method_2_code
def yJ7_init : MethodName := ⟨RJ7, "<init>", "(I)V"⟩
def dkwJ7_init_1 : List UInt8 := [167, 0, 16, 42, 27, 184, 0, 26, 181, 0, 15, 42, 4, 181, 0, 22, 177]
abbrev dktJ7_init_1 : List UInt8 := dkwJ7_init_1 ++ []
def dkwJ7_init_0 : List UInt8 := [42, 183, 0, 3, 178, 0, 18, 153, 0, 18, 42, 27, 188, 8, 181, 0, 15, 42, 3, 181, 0, 22]
abbrev dktJ7_init_0 : List UInt8 := dkwJ7_init_0 ++ dktJ7_init_1
theorem dksJ7_init_0 : cJ7_init.data.toList.drop 0 = dktJ7_init_0 := by decide +kernel
theorem dksJ7_init_1 : cJ7_init.data.toList.drop 22 = dktJ7_init_1 := dk_seg dksJ7_init_0 22 rfl rfl
theorem dJ7_init_0 : decode cJ7_init 0 = .ok (.aload_n 0, 1) := dk_42 (dk_at dksJ7_init_0 0 rfl rfl)
theorem dJ7_init_1 : decode cJ7_init 1 = .ok (.invokespecial 3, 3) := dk_183 0 3 (dk_at dksJ7_init_0 1 rfl rfl)
theorem dJ7_init_4 : decode cJ7_init 4 = .ok (.getstatic 18, 3) := dk_178 0 18 (dk_at dksJ7_init_0 4 rfl rfl)
theorem dJ7_init_7 : decode cJ7_init 7 = .ok (.ifCond .eq 18, 3) := dk_153 0 18 (dk_at dksJ7_init_0 7 rfl rfl)
theorem dJ7_init_10 : decode cJ7_init 10 = .ok (.aload_n 0, 1) := dk_42 (dk_at dksJ7_init_0 10 rfl rfl)
theorem dJ7_init_11 : decode cJ7_init 11 = .ok (.iload_n 1, 1) := dk_27 (dk_at dksJ7_init_0 11 rfl rfl)
theorem dJ7_init_12 : decode cJ7_init 12 = .ok (.newarray .byte, 2) := dk_188_8 (dk_at dksJ7_init_0 12 rfl rfl)
theorem dJ7_init_14 : decode cJ7_init 14 = .ok (.putfield 15, 3) := dk_181 0 15 (dk_at dksJ7_init_0 14 rfl rfl)
theorem dJ7_init_17 : decode cJ7_init 17 = .ok (.aload_n 0, 1) := dk_42 (dk_at dksJ7_init_0 17 rfl rfl)
theorem dJ7_init_18 : decode cJ7_init 18 = .ok (.iconst 0, 1) := dk_3 (dk_at dksJ7_init_0 18 rfl rfl)
theorem dJ7_init_19 : decode cJ7_init 19 = .ok (.putfield 22, 3) := dk_181 0 22 (dk_at dksJ7_init_0 19 rfl rfl)
theorem dJ7_init_22 : decode cJ7_init 22 = .ok (.goto 16, 3) := dk_167 0 16 (dk_at dksJ7_init_1 0 rfl rfl)
theorem dJ7_init_25 : decode cJ7_init 25 = .ok (.aload_n 0, 1) := dk_42 (dk_at dksJ7_init_1 3 rfl rfl)
theorem dJ7_init_26 : decode cJ7_init 26 = .ok (.iload_n 1, 1) := dk_27 (dk_at dksJ7_init_1 4 rfl rfl)
theorem dJ7_init_27 : decode cJ7_init 27 = .ok (.invokestatic 26, 3) := dk_184 0 26 (dk_at dksJ7_init_1 5 rfl rfl)
theorem dJ7_init_30 : decode cJ7_init 30 = .ok (.putfield 15, 3) := dk_181 0 15 (dk_at dksJ7_init_1 8 rfl rfl)
theorem dJ7_init_33 : decode cJ7_init 33 = .ok (.aload_n 0, 1) := dk_42 (dk_at dksJ7_init_1 11 rfl rfl)
theorem dJ7_init_34 : decode cJ7_init 34 = .ok (.iconst 1, 1) := dk_4 (dk_at dksJ7_init_1 12 rfl rfl)
theorem dJ7_init_35 : decode cJ7_init 35 = .ok (.putfield 22, 3) := dk_181 0 22 (dk_at dksJ7_init_1 13 rfl rfl)
theorem dJ7_init_38 : decode cJ7_init 38 = .ok (.return_, 1) := dk_177 (dk_at dksJ7_init_1 16 rfl rfl)
abbrev cJ7_append : ByteArray := prog_22_method_22_code
def yJ7_append : MethodName := ⟨RJ7, "append", "(Ljava/lang/String;)Ljava/lang/AbstractStringBuilder;"⟩
def dkwJ7_append_1 : List UInt8 := [42, 42, 180, 0, 79, 43, 182, 0, 208, 42, 89, 180, 0, 79, 28, 96, 181, 0, 79, 42, 176]
abbrev dktJ7_append_1 : List UInt8 := dkwJ7_append_1 ++ []
def dkwJ7_append_0 : List UInt8 := [43, 199, 0, 8, 42, 182, 0, 204, 176, 43, 182, 0, 32, 61, 42, 42, 180, 0, 79, 28, 96, 182, 0, 100]
abbrev dktJ7_append_0 : List UInt8 := dkwJ7_append_0 ++ dktJ7_append_1
theorem dksJ7_append_0 : cJ7_append.data.toList.drop 0 = dktJ7_append_0 := by decide +kernel
theorem dksJ7_append_1 : cJ7_append.data.toList.drop 24 = dktJ7_append_1 := dk_seg dksJ7_append_0 24 rfl rfl
theorem dJ7_append_0 : decode cJ7_append 0 = .ok (.aload_n 1, 1) := dk_43 (dk_at dksJ7_append_0 0 rfl rfl)
theorem dJ7_append_1 : decode cJ7_append 1 = .ok (.ifnonnull 8, 3) := dk_199 0 8 (dk_at dksJ7_append_0 1 rfl rfl)
theorem dJ7_append_4 : decode cJ7_append 4 = .ok (.aload_n 0, 1) := dk_42 (dk_at dksJ7_append_0 4 rfl rfl)
theorem dJ7_append_5 : decode cJ7_append 5 = .ok (.invokevirtual 204, 3) := dk_182 0 204 (dk_at dksJ7_append_0 5 rfl rfl)
theorem dJ7_append_8 : decode cJ7_append 8 = .ok (.areturn, 1) := dk_176 (dk_at dksJ7_append_0 8 rfl rfl)
theorem dJ7_append_9 : decode cJ7_append 9 = .ok (.aload_n 1, 1) := dk_43 (dk_at dksJ7_append_0 9 rfl rfl)
theorem dJ7_append_10 : decode cJ7_append 10 = .ok (.invokevirtual 32, 3) := dk_182 0 32 (dk_at dksJ7_append_0 10 rfl rfl)
theorem dJ7_append_13 : decode cJ7_append 13 = .ok (.istore_n 2, 1) := dk_61 (dk_at dksJ7_append_0 13 rfl rfl)
theorem dJ7_append_14 : decode cJ7_append 14 = .ok (.aload_n 0, 1) := dk_42 (dk_at dksJ7_append_0 14 rfl rfl)
theorem dJ7_append_15 : decode cJ7_append 15 = .ok (.aload_n 0, 1) := dk_42 (dk_at dksJ7_append_0 15 rfl rfl)
theorem dJ7_append_16 : decode cJ7_append 16 = .ok (.getfield 79, 3) := dk_180 0 79 (dk_at dksJ7_append_0 16 rfl rfl)
theorem dJ7_append_19 : decode cJ7_append 19 = .ok (.iload_n 2, 1) := dk_28 (dk_at dksJ7_append_0 19 rfl rfl)
theorem dJ7_append_20 : decode cJ7_append 20 = .ok (.iadd, 1) := dk_96 (dk_at dksJ7_append_0 20 rfl rfl)
theorem dJ7_append_21 : decode cJ7_append 21 = .ok (.invokevirtual 100, 3) := dk_182 0 100 (dk_at dksJ7_append_0 21 rfl rfl)
theorem dJ7_append_24 : decode cJ7_append 24 = .ok (.aload_n 0, 1) := dk_42 (dk_at dksJ7_append_1 0 rfl rfl)
theorem dJ7_append_25 : decode cJ7_append 25 = .ok (.aload_n 0, 1) := dk_42 (dk_at dksJ7_append_1 1 rfl rfl)
theorem dJ7_append_26 : decode cJ7_append 26 = .ok (.getfield 79, 3) := dk_180 0 79 (dk_at dksJ7_append_1 2 rfl rfl)
theorem dJ7_append_29 : decode cJ7_append 29 = .ok (.aload_n 1, 1) := dk_43 (dk_at dksJ7_append_1 5 rfl rfl)
theorem dJ7_append_30 : decode cJ7_append 30 = .ok (.invokevirtual 208, 3) := dk_182 0 208 (dk_at dksJ7_append_1 6 rfl rfl)
theorem dJ7_append_33 : decode cJ7_append 33 = .ok (.aload_n 0, 1) := dk_42 (dk_at dksJ7_append_1 9 rfl rfl)
theorem dJ7_append_34 : decode cJ7_append 34 = .ok (.dup, 1) := dk_89 (dk_at dksJ7_append_1 10 rfl rfl)
theorem dJ7_append_35 : decode cJ7_append 35 = .ok (.getfield 79, 3) := dk_180 0 79 (dk_at dksJ7_append_1 11 rfl rfl)
theorem dJ7_append_38 : decode cJ7_append 38 = .ok (.iload_n 2, 1) := dk_28 (dk_at dksJ7_append_1 14 rfl rfl)
theorem dJ7_append_39 : decode cJ7_append 39 = .ok (.iadd, 1) := dk_96 (dk_at dksJ7_append_1 15 rfl rfl)
theorem dJ7_append_40 : decode cJ7_append 40 = .ok (.putfield 79, 3) := dk_181 0 79 (dk_at dksJ7_append_1 16 rfl rfl)
theorem dJ7_append_43 : decode cJ7_append 43 = .ok (.aload_n 0, 1) := dk_42 (dk_at dksJ7_append_1 19 rfl rfl)
theorem dJ7_append_44 : decode cJ7_append 44 = .ok (.areturn, 1) := dk_176 (dk_at dksJ7_append_1 20 rfl rfl)
abbrev cJ7_appendNull : ByteArray := prog_22_method_26_code
def yJ7_appendNull : MethodName := ⟨RJ7, "appendNull", "()Ljava/lang/AbstractStringBuilder;"⟩
def dkwJ7_appendNull_3 : List UInt8 := [184, 0, 226, 60, 42, 27, 181, 0, 79, 42, 176]
abbrev dktJ7_appendNull_3 : List UInt8 := dkwJ7_appendNull_3 ++ []
def dkwJ7_appendNull_2 : List UInt8 := [16, 108, 84, 44, 27, 132, 1, 1, 16, 108, 84, 167, 0, 17, 44, 27, 16, 110, 16, 117, 16, 108, 16, 108]
abbrev dktJ7_appendNull_2 : List UInt8 := dkwJ7_appendNull_2 ++ dktJ7_appendNull_3
def dkwJ7_appendNull_1 : List UInt8 := [153, 0, 38, 44, 27, 132, 1, 1, 16, 110, 84, 44, 27, 132, 1, 1, 16, 117, 84, 44, 27, 132, 1, 1]
abbrev dktJ7_appendNull_1 : List UInt8 := dkwJ7_appendNull_1 ++ dktJ7_appendNull_2
def dkwJ7_appendNull_0 : List UInt8 := [42, 42, 180, 0, 79, 7, 96, 182, 0, 100, 42, 180, 0, 79, 60, 42, 180, 0, 15, 77, 42, 182, 0, 83]
abbrev dktJ7_appendNull_0 : List UInt8 := dkwJ7_appendNull_0 ++ dktJ7_appendNull_1
theorem dksJ7_appendNull_0 : cJ7_appendNull.data.toList.drop 0 = dktJ7_appendNull_0 := by decide +kernel
theorem dksJ7_appendNull_1 : cJ7_appendNull.data.toList.drop 24 = dktJ7_appendNull_1 := dk_seg dksJ7_appendNull_0 24 rfl rfl
theorem dksJ7_appendNull_2 : cJ7_appendNull.data.toList.drop 48 = dktJ7_appendNull_2 := dk_seg dksJ7_appendNull_1 24 rfl rfl
theorem dksJ7_appendNull_3 : cJ7_appendNull.data.toList.drop 72 = dktJ7_appendNull_3 := dk_seg dksJ7_appendNull_2 24 rfl rfl
theorem dJ7_appendNull_0 : decode cJ7_appendNull 0 = .ok (.aload_n 0, 1) := dk_42 (dk_at dksJ7_appendNull_0 0 rfl rfl)
theorem dJ7_appendNull_1 : decode cJ7_appendNull 1 = .ok (.aload_n 0, 1) := dk_42 (dk_at dksJ7_appendNull_0 1 rfl rfl)
theorem dJ7_appendNull_2 : decode cJ7_appendNull 2 = .ok (.getfield 79, 3) := dk_180 0 79 (dk_at dksJ7_appendNull_0 2 rfl rfl)
theorem dJ7_appendNull_5 : decode cJ7_appendNull 5 = .ok (.iconst 4, 1) := dk_7 (dk_at dksJ7_appendNull_0 5 rfl rfl)
theorem dJ7_appendNull_6 : decode cJ7_appendNull 6 = .ok (.iadd, 1) := dk_96 (dk_at dksJ7_appendNull_0 6 rfl rfl)
theorem dJ7_appendNull_7 : decode cJ7_appendNull 7 = .ok (.invokevirtual 100, 3) := dk_182 0 100 (dk_at dksJ7_appendNull_0 7 rfl rfl)
theorem dJ7_appendNull_10 : decode cJ7_appendNull 10 = .ok (.aload_n 0, 1) := dk_42 (dk_at dksJ7_appendNull_0 10 rfl rfl)
theorem dJ7_appendNull_11 : decode cJ7_appendNull 11 = .ok (.getfield 79, 3) := dk_180 0 79 (dk_at dksJ7_appendNull_0 11 rfl rfl)
theorem dJ7_appendNull_14 : decode cJ7_appendNull 14 = .ok (.istore_n 1, 1) := dk_60 (dk_at dksJ7_appendNull_0 14 rfl rfl)
theorem dJ7_appendNull_15 : decode cJ7_appendNull 15 = .ok (.aload_n 0, 1) := dk_42 (dk_at dksJ7_appendNull_0 15 rfl rfl)
theorem dJ7_appendNull_16 : decode cJ7_appendNull 16 = .ok (.getfield 15, 3) := dk_180 0 15 (dk_at dksJ7_appendNull_0 16 rfl rfl)
theorem dJ7_appendNull_19 : decode cJ7_appendNull 19 = .ok (.astore_n 2, 1) := dk_77 (dk_at dksJ7_appendNull_0 19 rfl rfl)
theorem dJ7_appendNull_20 : decode cJ7_appendNull 20 = .ok (.aload_n 0, 1) := dk_42 (dk_at dksJ7_appendNull_0 20 rfl rfl)
theorem dJ7_appendNull_21 : decode cJ7_appendNull 21 = .ok (.invokevirtual 83, 3) := dk_182 0 83 (dk_at dksJ7_appendNull_0 21 rfl rfl)
theorem dJ7_appendNull_24 : decode cJ7_appendNull 24 = .ok (.ifCond .eq 38, 3) := dk_153 0 38 (dk_at dksJ7_appendNull_1 0 rfl rfl)
theorem dJ7_appendNull_27 : decode cJ7_appendNull 27 = .ok (.aload_n 2, 1) := dk_44 (dk_at dksJ7_appendNull_1 3 rfl rfl)
theorem dJ7_appendNull_28 : decode cJ7_appendNull 28 = .ok (.iload_n 1, 1) := dk_27 (dk_at dksJ7_appendNull_1 4 rfl rfl)
theorem dJ7_appendNull_29 : decode cJ7_appendNull 29 = .ok (.iinc 1 1, 3) := dk_132 1 1 (dk_at dksJ7_appendNull_1 5 rfl rfl)
theorem dJ7_appendNull_32 : decode cJ7_appendNull 32 = .ok (.bipush 110, 2) := dk_16 110 (dk_at dksJ7_appendNull_1 8 rfl rfl)
theorem dJ7_appendNull_34 : decode cJ7_appendNull 34 = .ok (.bastore, 1) := dk_84 (dk_at dksJ7_appendNull_1 10 rfl rfl)
theorem dJ7_appendNull_35 : decode cJ7_appendNull 35 = .ok (.aload_n 2, 1) := dk_44 (dk_at dksJ7_appendNull_1 11 rfl rfl)
theorem dJ7_appendNull_36 : decode cJ7_appendNull 36 = .ok (.iload_n 1, 1) := dk_27 (dk_at dksJ7_appendNull_1 12 rfl rfl)
theorem dJ7_appendNull_37 : decode cJ7_appendNull 37 = .ok (.iinc 1 1, 3) := dk_132 1 1 (dk_at dksJ7_appendNull_1 13 rfl rfl)
theorem dJ7_appendNull_40 : decode cJ7_appendNull 40 = .ok (.bipush 117, 2) := dk_16 117 (dk_at dksJ7_appendNull_1 16 rfl rfl)
theorem dJ7_appendNull_42 : decode cJ7_appendNull 42 = .ok (.bastore, 1) := dk_84 (dk_at dksJ7_appendNull_1 18 rfl rfl)
theorem dJ7_appendNull_43 : decode cJ7_appendNull 43 = .ok (.aload_n 2, 1) := dk_44 (dk_at dksJ7_appendNull_1 19 rfl rfl)
theorem dJ7_appendNull_44 : decode cJ7_appendNull 44 = .ok (.iload_n 1, 1) := dk_27 (dk_at dksJ7_appendNull_1 20 rfl rfl)
theorem dJ7_appendNull_45 : decode cJ7_appendNull 45 = .ok (.iinc 1 1, 3) := dk_132 1 1 (dk_at dksJ7_appendNull_1 21 rfl rfl)
theorem dJ7_appendNull_48 : decode cJ7_appendNull 48 = .ok (.bipush 108, 2) := dk_16 108 (dk_at dksJ7_appendNull_2 0 rfl rfl)
theorem dJ7_appendNull_50 : decode cJ7_appendNull 50 = .ok (.bastore, 1) := dk_84 (dk_at dksJ7_appendNull_2 2 rfl rfl)
theorem dJ7_appendNull_51 : decode cJ7_appendNull 51 = .ok (.aload_n 2, 1) := dk_44 (dk_at dksJ7_appendNull_2 3 rfl rfl)
theorem dJ7_appendNull_52 : decode cJ7_appendNull 52 = .ok (.iload_n 1, 1) := dk_27 (dk_at dksJ7_appendNull_2 4 rfl rfl)
theorem dJ7_appendNull_53 : decode cJ7_appendNull 53 = .ok (.iinc 1 1, 3) := dk_132 1 1 (dk_at dksJ7_appendNull_2 5 rfl rfl)
theorem dJ7_appendNull_56 : decode cJ7_appendNull 56 = .ok (.bipush 108, 2) := dk_16 108 (dk_at dksJ7_appendNull_2 8 rfl rfl)
theorem dJ7_appendNull_58 : decode cJ7_appendNull 58 = .ok (.bastore, 1) := dk_84 (dk_at dksJ7_appendNull_2 10 rfl rfl)
theorem dJ7_appendNull_59 : decode cJ7_appendNull 59 = .ok (.goto 17, 3) := dk_167 0 17 (dk_at dksJ7_appendNull_2 11 rfl rfl)
theorem dJ7_appendNull_62 : decode cJ7_appendNull 62 = .ok (.aload_n 2, 1) := dk_44 (dk_at dksJ7_appendNull_2 14 rfl rfl)
theorem dJ7_appendNull_63 : decode cJ7_appendNull 63 = .ok (.iload_n 1, 1) := dk_27 (dk_at dksJ7_appendNull_2 15 rfl rfl)
theorem dJ7_appendNull_64 : decode cJ7_appendNull 64 = .ok (.bipush 110, 2) := dk_16 110 (dk_at dksJ7_appendNull_2 16 rfl rfl)
theorem dJ7_appendNull_66 : decode cJ7_appendNull 66 = .ok (.bipush 117, 2) := dk_16 117 (dk_at dksJ7_appendNull_2 18 rfl rfl)
theorem dJ7_appendNull_68 : decode cJ7_appendNull 68 = .ok (.bipush 108, 2) := dk_16 108 (dk_at dksJ7_appendNull_2 20 rfl rfl)
theorem dJ7_appendNull_70 : decode cJ7_appendNull 70 = .ok (.bipush 108, 2) := dk_16 108 (dk_at dksJ7_appendNull_2 22 rfl rfl)
theorem dJ7_appendNull_72 : decode cJ7_appendNull 72 = .ok (.invokestatic 226, 3) := dk_184 0 226 (dk_at dksJ7_appendNull_3 0 rfl rfl)
theorem dJ7_appendNull_75 : decode cJ7_appendNull 75 = .ok (.istore_n 1, 1) := dk_60 (dk_at dksJ7_appendNull_3 3 rfl rfl)
theorem dJ7_appendNull_76 : decode cJ7_appendNull 76 = .ok (.aload_n 0, 1) := dk_42 (dk_at dksJ7_appendNull_3 4 rfl rfl)
theorem dJ7_appendNull_77 : decode cJ7_appendNull 77 = .ok (.iload_n 1, 1) := dk_27 (dk_at dksJ7_appendNull_3 5 rfl rfl)
theorem dJ7_appendNull_78 : decode cJ7_appendNull 78 = .ok (.putfield 79, 3) := dk_181 0 79 (dk_at dksJ7_appendNull_3 6 rfl rfl)
theorem dJ7_appendNull_81 : decode cJ7_appendNull 81 = .ok (.aload_n 0, 1) := dk_42 (dk_at dksJ7_appendNull_3 9 rfl rfl)
theorem dJ7_appendNull_82 : decode cJ7_appendNull 82 = .ok (.areturn, 1) := dk_176 (dk_at dksJ7_appendNull_3 10 rfl rfl)
abbrev cJ7_ensureCapacityInternal : ByteArray := prog_22_method_9_code
def yJ7_ensureCapacityInternal : MethodName := ⟨RJ7, "ensureCapacityInternal", "(I)V"⟩
def dkwJ7_ensureCapacityInternal_1 : List UInt8 := [182, 0, 104, 42, 180, 0, 22, 120, 184, 0, 108, 181, 0, 15, 177]
abbrev dktJ7_ensureCapacityInternal_1 : List UInt8 := dkwJ7_ensureCapacityInternal_1 ++ []
def dkwJ7_ensureCapacityInternal_0 : List UInt8 := [42, 180, 0, 15, 190, 42, 180, 0, 22, 122, 61, 27, 28, 100, 158, 0, 24, 42, 42, 180, 0, 15, 42, 27]
abbrev dktJ7_ensureCapacityInternal_0 : List UInt8 := dkwJ7_ensureCapacityInternal_0 ++ dktJ7_ensureCapacityInternal_1
theorem dksJ7_ensureCapacityInternal_0 : cJ7_ensureCapacityInternal.data.toList.drop 0 = dktJ7_ensureCapacityInternal_0 := by decide +kernel
theorem dksJ7_ensureCapacityInternal_1 : cJ7_ensureCapacityInternal.data.toList.drop 24 = dktJ7_ensureCapacityInternal_1 := dk_seg dksJ7_ensureCapacityInternal_0 24 rfl rfl
theorem dJ7_ensureCapacityInternal_0 : decode cJ7_ensureCapacityInternal 0 = .ok (.aload_n 0, 1) := dk_42 (dk_at dksJ7_ensureCapacityInternal_0 0 rfl rfl)
theorem dJ7_ensureCapacityInternal_1 : decode cJ7_ensureCapacityInternal 1 = .ok (.getfield 15, 3) := dk_180 0 15 (dk_at dksJ7_ensureCapacityInternal_0 1 rfl rfl)
theorem dJ7_ensureCapacityInternal_4 : decode cJ7_ensureCapacityInternal 4 = .ok (.arraylength, 1) := dk_190 (dk_at dksJ7_ensureCapacityInternal_0 4 rfl rfl)
theorem dJ7_ensureCapacityInternal_5 : decode cJ7_ensureCapacityInternal 5 = .ok (.aload_n 0, 1) := dk_42 (dk_at dksJ7_ensureCapacityInternal_0 5 rfl rfl)
theorem dJ7_ensureCapacityInternal_6 : decode cJ7_ensureCapacityInternal 6 = .ok (.getfield 22, 3) := dk_180 0 22 (dk_at dksJ7_ensureCapacityInternal_0 6 rfl rfl)
theorem dJ7_ensureCapacityInternal_9 : decode cJ7_ensureCapacityInternal 9 = .ok (.ishr, 1) := dk_122 (dk_at dksJ7_ensureCapacityInternal_0 9 rfl rfl)
theorem dJ7_ensureCapacityInternal_10 : decode cJ7_ensureCapacityInternal 10 = .ok (.istore_n 2, 1) := dk_61 (dk_at dksJ7_ensureCapacityInternal_0 10 rfl rfl)
theorem dJ7_ensureCapacityInternal_11 : decode cJ7_ensureCapacityInternal 11 = .ok (.iload_n 1, 1) := dk_27 (dk_at dksJ7_ensureCapacityInternal_0 11 rfl rfl)
theorem dJ7_ensureCapacityInternal_12 : decode cJ7_ensureCapacityInternal 12 = .ok (.iload_n 2, 1) := dk_28 (dk_at dksJ7_ensureCapacityInternal_0 12 rfl rfl)
theorem dJ7_ensureCapacityInternal_13 : decode cJ7_ensureCapacityInternal 13 = .ok (.isub, 1) := dk_100 (dk_at dksJ7_ensureCapacityInternal_0 13 rfl rfl)
theorem dJ7_ensureCapacityInternal_14 : decode cJ7_ensureCapacityInternal 14 = .ok (.ifCond .le 24, 3) := dk_158 0 24 (dk_at dksJ7_ensureCapacityInternal_0 14 rfl rfl)
theorem dJ7_ensureCapacityInternal_17 : decode cJ7_ensureCapacityInternal 17 = .ok (.aload_n 0, 1) := dk_42 (dk_at dksJ7_ensureCapacityInternal_0 17 rfl rfl)
theorem dJ7_ensureCapacityInternal_18 : decode cJ7_ensureCapacityInternal 18 = .ok (.aload_n 0, 1) := dk_42 (dk_at dksJ7_ensureCapacityInternal_0 18 rfl rfl)
theorem dJ7_ensureCapacityInternal_19 : decode cJ7_ensureCapacityInternal 19 = .ok (.getfield 15, 3) := dk_180 0 15 (dk_at dksJ7_ensureCapacityInternal_0 19 rfl rfl)
theorem dJ7_ensureCapacityInternal_22 : decode cJ7_ensureCapacityInternal 22 = .ok (.aload_n 0, 1) := dk_42 (dk_at dksJ7_ensureCapacityInternal_0 22 rfl rfl)
theorem dJ7_ensureCapacityInternal_23 : decode cJ7_ensureCapacityInternal 23 = .ok (.iload_n 1, 1) := dk_27 (dk_at dksJ7_ensureCapacityInternal_0 23 rfl rfl)
theorem dJ7_ensureCapacityInternal_24 : decode cJ7_ensureCapacityInternal 24 = .ok (.invokevirtual 104, 3) := dk_182 0 104 (dk_at dksJ7_ensureCapacityInternal_1 0 rfl rfl)
theorem dJ7_ensureCapacityInternal_27 : decode cJ7_ensureCapacityInternal 27 = .ok (.aload_n 0, 1) := dk_42 (dk_at dksJ7_ensureCapacityInternal_1 3 rfl rfl)
theorem dJ7_ensureCapacityInternal_28 : decode cJ7_ensureCapacityInternal 28 = .ok (.getfield 22, 3) := dk_180 0 22 (dk_at dksJ7_ensureCapacityInternal_1 4 rfl rfl)
theorem dJ7_ensureCapacityInternal_31 : decode cJ7_ensureCapacityInternal 31 = .ok (.ishl, 1) := dk_120 (dk_at dksJ7_ensureCapacityInternal_1 7 rfl rfl)
theorem dJ7_ensureCapacityInternal_32 : decode cJ7_ensureCapacityInternal 32 = .ok (.invokestatic 108, 3) := dk_184 0 108 (dk_at dksJ7_ensureCapacityInternal_1 8 rfl rfl)
theorem dJ7_ensureCapacityInternal_35 : decode cJ7_ensureCapacityInternal 35 = .ok (.putfield 15, 3) := dk_181 0 15 (dk_at dksJ7_ensureCapacityInternal_1 11 rfl rfl)
theorem dJ7_ensureCapacityInternal_38 : decode cJ7_ensureCapacityInternal 38 = .ok (.return_, 1) := dk_177 (dk_at dksJ7_ensureCapacityInternal_1 14 rfl rfl)
abbrev cJ7_newCapacity : ByteArray := prog_22_method_10_code
def yJ7_newCapacity : MethodName := ⟨RJ7, "newCapacity", "(I)I"⟩
def dkwJ7_newCapacity_2 : List UInt8 := [183, 0, 124, 191, 21, 5, 42, 180, 0, 22, 122, 172]
abbrev dktJ7_newCapacity_2 : List UInt8 := dkwJ7_newCapacity_2 ++ []
def dkwJ7_newCapacity_1 : List UInt8 := [180, 0, 22, 120, 96, 184, 0, 114, 54, 5, 21, 5, 18, 39, 160, 0, 13, 187, 0, 120, 89, 18, 122]
abbrev dktJ7_newCapacity_1 : List UInt8 := dkwJ7_newCapacity_1 ++ dktJ7_newCapacity_2
def dkwJ7_newCapacity_0 : List UInt8 := [42, 180, 0, 15, 190, 61, 27, 42, 180, 0, 22, 120, 62, 29, 28, 100, 54, 4, 28, 21, 4, 28, 5, 42]
abbrev dktJ7_newCapacity_0 : List UInt8 := dkwJ7_newCapacity_0 ++ dktJ7_newCapacity_1
theorem dksJ7_newCapacity_0 : cJ7_newCapacity.data.toList.drop 0 = dktJ7_newCapacity_0 := by decide +kernel
theorem dksJ7_newCapacity_1 : cJ7_newCapacity.data.toList.drop 24 = dktJ7_newCapacity_1 := dk_seg dksJ7_newCapacity_0 24 rfl rfl
theorem dksJ7_newCapacity_2 : cJ7_newCapacity.data.toList.drop 47 = dktJ7_newCapacity_2 := dk_seg dksJ7_newCapacity_1 23 rfl rfl
theorem dJ7_newCapacity_0 : decode cJ7_newCapacity 0 = .ok (.aload_n 0, 1) := dk_42 (dk_at dksJ7_newCapacity_0 0 rfl rfl)
theorem dJ7_newCapacity_1 : decode cJ7_newCapacity 1 = .ok (.getfield 15, 3) := dk_180 0 15 (dk_at dksJ7_newCapacity_0 1 rfl rfl)
theorem dJ7_newCapacity_4 : decode cJ7_newCapacity 4 = .ok (.arraylength, 1) := dk_190 (dk_at dksJ7_newCapacity_0 4 rfl rfl)
theorem dJ7_newCapacity_5 : decode cJ7_newCapacity 5 = .ok (.istore_n 2, 1) := dk_61 (dk_at dksJ7_newCapacity_0 5 rfl rfl)
theorem dJ7_newCapacity_6 : decode cJ7_newCapacity 6 = .ok (.iload_n 1, 1) := dk_27 (dk_at dksJ7_newCapacity_0 6 rfl rfl)
theorem dJ7_newCapacity_7 : decode cJ7_newCapacity 7 = .ok (.aload_n 0, 1) := dk_42 (dk_at dksJ7_newCapacity_0 7 rfl rfl)
theorem dJ7_newCapacity_8 : decode cJ7_newCapacity 8 = .ok (.getfield 22, 3) := dk_180 0 22 (dk_at dksJ7_newCapacity_0 8 rfl rfl)
theorem dJ7_newCapacity_11 : decode cJ7_newCapacity 11 = .ok (.ishl, 1) := dk_120 (dk_at dksJ7_newCapacity_0 11 rfl rfl)
theorem dJ7_newCapacity_12 : decode cJ7_newCapacity 12 = .ok (.istore_n 3, 1) := dk_62 (dk_at dksJ7_newCapacity_0 12 rfl rfl)
theorem dJ7_newCapacity_13 : decode cJ7_newCapacity 13 = .ok (.iload_n 3, 1) := dk_29 (dk_at dksJ7_newCapacity_0 13 rfl rfl)
theorem dJ7_newCapacity_14 : decode cJ7_newCapacity 14 = .ok (.iload_n 2, 1) := dk_28 (dk_at dksJ7_newCapacity_0 14 rfl rfl)
theorem dJ7_newCapacity_15 : decode cJ7_newCapacity 15 = .ok (.isub, 1) := dk_100 (dk_at dksJ7_newCapacity_0 15 rfl rfl)
theorem dJ7_newCapacity_16 : decode cJ7_newCapacity 16 = .ok (.istore 4, 2) := dk_54 4 (dk_at dksJ7_newCapacity_0 16 rfl rfl)
theorem dJ7_newCapacity_18 : decode cJ7_newCapacity 18 = .ok (.iload_n 2, 1) := dk_28 (dk_at dksJ7_newCapacity_0 18 rfl rfl)
theorem dJ7_newCapacity_19 : decode cJ7_newCapacity 19 = .ok (.iload 4, 2) := dk_21 4 (dk_at dksJ7_newCapacity_0 19 rfl rfl)
theorem dJ7_newCapacity_21 : decode cJ7_newCapacity 21 = .ok (.iload_n 2, 1) := dk_28 (dk_at dksJ7_newCapacity_0 21 rfl rfl)
theorem dJ7_newCapacity_22 : decode cJ7_newCapacity 22 = .ok (.iconst 2, 1) := dk_5 (dk_at dksJ7_newCapacity_0 22 rfl rfl)
theorem dJ7_newCapacity_23 : decode cJ7_newCapacity 23 = .ok (.aload_n 0, 1) := dk_42 (dk_at dksJ7_newCapacity_0 23 rfl rfl)
theorem dJ7_newCapacity_24 : decode cJ7_newCapacity 24 = .ok (.getfield 22, 3) := dk_180 0 22 (dk_at dksJ7_newCapacity_1 0 rfl rfl)
theorem dJ7_newCapacity_27 : decode cJ7_newCapacity 27 = .ok (.ishl, 1) := dk_120 (dk_at dksJ7_newCapacity_1 3 rfl rfl)
theorem dJ7_newCapacity_28 : decode cJ7_newCapacity 28 = .ok (.iadd, 1) := dk_96 (dk_at dksJ7_newCapacity_1 4 rfl rfl)
theorem dJ7_newCapacity_29 : decode cJ7_newCapacity 29 = .ok (.invokestatic 114, 3) := dk_184 0 114 (dk_at dksJ7_newCapacity_1 5 rfl rfl)
theorem dJ7_newCapacity_32 : decode cJ7_newCapacity 32 = .ok (.istore 5, 2) := dk_54 5 (dk_at dksJ7_newCapacity_1 8 rfl rfl)
theorem dJ7_newCapacity_34 : decode cJ7_newCapacity 34 = .ok (.iload 5, 2) := dk_21 5 (dk_at dksJ7_newCapacity_1 10 rfl rfl)
theorem dJ7_newCapacity_36 : decode cJ7_newCapacity 36 = .ok (.ldc 39, 2) := dk_18 39 (dk_at dksJ7_newCapacity_1 12 rfl rfl)
theorem dJ7_newCapacity_38 : decode cJ7_newCapacity 38 = .ok (.if_icmp .ne 13, 3) := dk_160 0 13 (dk_at dksJ7_newCapacity_1 14 rfl rfl)
theorem dJ7_newCapacity_41 : decode cJ7_newCapacity 41 = .ok (.new 120, 3) := dk_187 0 120 (dk_at dksJ7_newCapacity_1 17 rfl rfl)
theorem dJ7_newCapacity_44 : decode cJ7_newCapacity 44 = .ok (.dup, 1) := dk_89 (dk_at dksJ7_newCapacity_1 20 rfl rfl)
theorem dJ7_newCapacity_45 : decode cJ7_newCapacity 45 = .ok (.ldc 122, 2) := dk_18 122 (dk_at dksJ7_newCapacity_1 21 rfl rfl)
theorem dJ7_newCapacity_47 : decode cJ7_newCapacity 47 = .ok (.invokespecial 124, 3) := dk_183 0 124 (dk_at dksJ7_newCapacity_2 0 rfl rfl)
theorem dJ7_newCapacity_50 : decode cJ7_newCapacity 50 = .ok (.athrow, 1) := dk_191 (dk_at dksJ7_newCapacity_2 3 rfl rfl)
theorem dJ7_newCapacity_51 : decode cJ7_newCapacity 51 = .ok (.iload 5, 2) := dk_21 5 (dk_at dksJ7_newCapacity_2 4 rfl rfl)
theorem dJ7_newCapacity_53 : decode cJ7_newCapacity 53 = .ok (.aload_n 0, 1) := dk_42 (dk_at dksJ7_newCapacity_2 6 rfl rfl)
theorem dJ7_newCapacity_54 : decode cJ7_newCapacity 54 = .ok (.getfield 22, 3) := dk_180 0 22 (dk_at dksJ7_newCapacity_2 7 rfl rfl)
theorem dJ7_newCapacity_57 : decode cJ7_newCapacity 57 = .ok (.ishr, 1) := dk_122 (dk_at dksJ7_newCapacity_2 10 rfl rfl)
theorem dJ7_newCapacity_58 : decode cJ7_newCapacity 58 = .ok (.ireturn, 1) := dk_172 (dk_at dksJ7_newCapacity_2 11 rfl rfl)
abbrev cJ7_isLatin1 : ByteArray := prog_22_method_68_code
def yJ7_isLatin1 : MethodName := ⟨RJ7, "isLatin1", "()Z"⟩
def dkwJ7_isLatin1_0 : List UInt8 := [178, 0, 18, 153, 0, 14, 42, 180, 0, 22, 154, 0, 7, 4, 167, 0, 4, 3, 172]
abbrev dktJ7_isLatin1_0 : List UInt8 := dkwJ7_isLatin1_0 ++ []
theorem dksJ7_isLatin1_0 : cJ7_isLatin1.data.toList.drop 0 = dktJ7_isLatin1_0 := by decide +kernel
theorem dJ7_isLatin1_0 : decode cJ7_isLatin1 0 = .ok (.getstatic 18, 3) := dk_178 0 18 (dk_at dksJ7_isLatin1_0 0 rfl rfl)
theorem dJ7_isLatin1_3 : decode cJ7_isLatin1 3 = .ok (.ifCond .eq 14, 3) := dk_153 0 14 (dk_at dksJ7_isLatin1_0 3 rfl rfl)
theorem dJ7_isLatin1_6 : decode cJ7_isLatin1 6 = .ok (.aload_n 0, 1) := dk_42 (dk_at dksJ7_isLatin1_0 6 rfl rfl)
theorem dJ7_isLatin1_7 : decode cJ7_isLatin1 7 = .ok (.getfield 22, 3) := dk_180 0 22 (dk_at dksJ7_isLatin1_0 7 rfl rfl)
theorem dJ7_isLatin1_10 : decode cJ7_isLatin1 10 = .ok (.ifCond .ne 7, 3) := dk_154 0 7 (dk_at dksJ7_isLatin1_0 10 rfl rfl)
theorem dJ7_isLatin1_13 : decode cJ7_isLatin1 13 = .ok (.iconst 1, 1) := dk_4 (dk_at dksJ7_isLatin1_0 13 rfl rfl)
theorem dJ7_isLatin1_14 : decode cJ7_isLatin1 14 = .ok (.goto 4, 3) := dk_167 0 4 (dk_at dksJ7_isLatin1_0 14 rfl rfl)
theorem dJ7_isLatin1_17 : decode cJ7_isLatin1 17 = .ok (.iconst 0, 1) := dk_3 (dk_at dksJ7_isLatin1_0 17 rfl rfl)
theorem dJ7_isLatin1_18 : decode cJ7_isLatin1 18 = .ok (.ireturn, 1) := dk_172 (dk_at dksJ7_isLatin1_0 18 rfl rfl)
abbrev cJ7_putStringAt : ByteArray := prog_22_method_73_code
def yJ7_putStringAt : MethodName := ⟨RJ7, "putStringAt", "(ILjava/lang/String;)V"⟩
def dkwJ7_putStringAt_0 : List UInt8 := [42, 44, 182, 1, 141, 44, 42, 180, 0, 15, 27, 42, 180, 0, 22, 182, 1, 143, 177]
abbrev dktJ7_putStringAt_0 : List UInt8 := dkwJ7_putStringAt_0 ++ []
theorem dksJ7_putStringAt_0 : cJ7_putStringAt.data.toList.drop 0 = dktJ7_putStringAt_0 := by decide +kernel
theorem dJ7_putStringAt_0 : decode cJ7_putStringAt 0 = .ok (.aload_n 0, 1) := dk_42 (dk_at dksJ7_putStringAt_0 0 rfl rfl)
theorem dJ7_putStringAt_1 : decode cJ7_putStringAt 1 = .ok (.aload_n 2, 1) := dk_44 (dk_at dksJ7_putStringAt_0 1 rfl rfl)
theorem dJ7_putStringAt_2 : decode cJ7_putStringAt 2 = .ok (.invokevirtual 397, 3) := dk_182 1 141 (dk_at dksJ7_putStringAt_0 2 rfl rfl)
theorem dJ7_putStringAt_5 : decode cJ7_putStringAt 5 = .ok (.aload_n 2, 1) := dk_44 (dk_at dksJ7_putStringAt_0 5 rfl rfl)
theorem dJ7_putStringAt_6 : decode cJ7_putStringAt 6 = .ok (.aload_n 0, 1) := dk_42 (dk_at dksJ7_putStringAt_0 6 rfl rfl)
theorem dJ7_putStringAt_7 : decode cJ7_putStringAt 7 = .ok (.getfield 15, 3) := dk_180 0 15 (dk_at dksJ7_putStringAt_0 7 rfl rfl)
theorem dJ7_putStringAt_10 : decode cJ7_putStringAt 10 = .ok (.iload_n 1, 1) := dk_27 (dk_at dksJ7_putStringAt_0 10 rfl rfl)
theorem dJ7_putStringAt_11 : decode cJ7_putStringAt 11 = .ok (.aload_n 0, 1) := dk_42 (dk_at dksJ7_putStringAt_0 11 rfl rfl)
theorem dJ7_putStringAt_12 : decode cJ7_putStringAt 12 = .ok (.getfield 22, 3) := dk_180 0 22 (dk_at dksJ7_putStringAt_0 12 rfl rfl)
theorem dJ7_putStringAt_15 : decode cJ7_putStringAt 15 = .ok (.invokevirtual 399, 3) := dk_182 1 143 (dk_at dksJ7_putStringAt_0 15 rfl rfl)
theorem dJ7_putStringAt_18 : decode cJ7_putStringAt 18 = .ok (.return_, 1) := dk_177 (dk_at dksJ7_putStringAt_0 18 rfl rfl)
abbrev cJ7_inflateIfNeededFor : ByteArray := prog_22_method_71_code
def yJ7_inflateIfNeededFor : MethodName := ⟨RJ7, "inflateIfNeededFor", "(Ljava/lang/String;)V"⟩
def dkwJ7_inflateIfNeededFor_0 : List UInt8 := [178, 0, 18, 153, 0, 18, 42, 180, 0, 22, 43, 182, 0, 40, 159, 0, 7, 42, 182, 0, 195, 177]
abbrev dktJ7_inflateIfNeededFor_0 : List UInt8 := dkwJ7_inflateIfNeededFor_0 ++ []
theorem dksJ7_inflateIfNeededFor_0 : cJ7_inflateIfNeededFor.data.toList.drop 0 = dktJ7_inflateIfNeededFor_0 := by decide +kernel
theorem dJ7_inflateIfNeededFor_0 : decode cJ7_inflateIfNeededFor 0 = .ok (.getstatic 18, 3) := dk_178 0 18 (dk_at dksJ7_inflateIfNeededFor_0 0 rfl rfl)
theorem dJ7_inflateIfNeededFor_3 : decode cJ7_inflateIfNeededFor 3 = .ok (.ifCond .eq 18, 3) := dk_153 0 18 (dk_at dksJ7_inflateIfNeededFor_0 3 rfl rfl)
theorem dJ7_inflateIfNeededFor_6 : decode cJ7_inflateIfNeededFor 6 = .ok (.aload_n 0, 1) := dk_42 (dk_at dksJ7_inflateIfNeededFor_0 6 rfl rfl)
theorem dJ7_inflateIfNeededFor_7 : decode cJ7_inflateIfNeededFor 7 = .ok (.getfield 22, 3) := dk_180 0 22 (dk_at dksJ7_inflateIfNeededFor_0 7 rfl rfl)
theorem dJ7_inflateIfNeededFor_10 : decode cJ7_inflateIfNeededFor 10 = .ok (.aload_n 1, 1) := dk_43 (dk_at dksJ7_inflateIfNeededFor_0 10 rfl rfl)
theorem dJ7_inflateIfNeededFor_11 : decode cJ7_inflateIfNeededFor 11 = .ok (.invokevirtual 40, 3) := dk_182 0 40 (dk_at dksJ7_inflateIfNeededFor_0 11 rfl rfl)
theorem dJ7_inflateIfNeededFor_14 : decode cJ7_inflateIfNeededFor 14 = .ok (.if_icmp .eq 7, 3) := dk_159 0 7 (dk_at dksJ7_inflateIfNeededFor_0 14 rfl rfl)
theorem dJ7_inflateIfNeededFor_17 : decode cJ7_inflateIfNeededFor 17 = .ok (.aload_n 0, 1) := dk_42 (dk_at dksJ7_inflateIfNeededFor_0 17 rfl rfl)
theorem dJ7_inflateIfNeededFor_18 : decode cJ7_inflateIfNeededFor 18 = .ok (.invokevirtual 195, 3) := dk_182 0 195 (dk_at dksJ7_inflateIfNeededFor_0 18 rfl rfl)
theorem dJ7_inflateIfNeededFor_21 : decode cJ7_inflateIfNeededFor 21 = .ok (.return_, 1) := dk_177 (dk_at dksJ7_inflateIfNeededFor_0 21 rfl rfl)
abbrev cJ7_inflate : ByteArray := prog_22_method_11_code
def yJ7_inflate : MethodName := ⟨RJ7, "inflate", "()V"⟩
def dkwJ7_inflate_1 : List UInt8 := [42, 180, 0, 79, 184, 0, 125, 42, 43, 181, 0, 15, 42, 4, 181, 0, 22, 177]
abbrev dktJ7_inflate_1 : List UInt8 := dkwJ7_inflate_1 ++ []
def dkwJ7_inflate_0 : List UInt8 := [42, 182, 0, 83, 154, 0, 4, 177, 42, 180, 0, 15, 190, 184, 0, 26, 76, 42, 180, 0, 15, 3, 43, 3]
abbrev dktJ7_inflate_0 : List UInt8 := dkwJ7_inflate_0 ++ dktJ7_inflate_1
theorem dksJ7_inflate_0 : cJ7_inflate.data.toList.drop 0 = dktJ7_inflate_0 := by decide +kernel
theorem dksJ7_inflate_1 : cJ7_inflate.data.toList.drop 24 = dktJ7_inflate_1 := dk_seg dksJ7_inflate_0 24 rfl rfl
theorem dJ7_inflate_0 : decode cJ7_inflate 0 = .ok (.aload_n 0, 1) := dk_42 (dk_at dksJ7_inflate_0 0 rfl rfl)
theorem dJ7_inflate_1 : decode cJ7_inflate 1 = .ok (.invokevirtual 83, 3) := dk_182 0 83 (dk_at dksJ7_inflate_0 1 rfl rfl)
theorem dJ7_inflate_4 : decode cJ7_inflate 4 = .ok (.ifCond .ne 4, 3) := dk_154 0 4 (dk_at dksJ7_inflate_0 4 rfl rfl)
theorem dJ7_inflate_7 : decode cJ7_inflate 7 = .ok (.return_, 1) := dk_177 (dk_at dksJ7_inflate_0 7 rfl rfl)
theorem dJ7_inflate_8 : decode cJ7_inflate 8 = .ok (.aload_n 0, 1) := dk_42 (dk_at dksJ7_inflate_0 8 rfl rfl)
theorem dJ7_inflate_9 : decode cJ7_inflate 9 = .ok (.getfield 15, 3) := dk_180 0 15 (dk_at dksJ7_inflate_0 9 rfl rfl)
theorem dJ7_inflate_12 : decode cJ7_inflate 12 = .ok (.arraylength, 1) := dk_190 (dk_at dksJ7_inflate_0 12 rfl rfl)
theorem dJ7_inflate_13 : decode cJ7_inflate 13 = .ok (.invokestatic 26, 3) := dk_184 0 26 (dk_at dksJ7_inflate_0 13 rfl rfl)
theorem dJ7_inflate_16 : decode cJ7_inflate 16 = .ok (.astore_n 1, 1) := dk_76 (dk_at dksJ7_inflate_0 16 rfl rfl)
theorem dJ7_inflate_17 : decode cJ7_inflate 17 = .ok (.aload_n 0, 1) := dk_42 (dk_at dksJ7_inflate_0 17 rfl rfl)
theorem dJ7_inflate_18 : decode cJ7_inflate 18 = .ok (.getfield 15, 3) := dk_180 0 15 (dk_at dksJ7_inflate_0 18 rfl rfl)
theorem dJ7_inflate_21 : decode cJ7_inflate 21 = .ok (.iconst 0, 1) := dk_3 (dk_at dksJ7_inflate_0 21 rfl rfl)
theorem dJ7_inflate_22 : decode cJ7_inflate 22 = .ok (.aload_n 1, 1) := dk_43 (dk_at dksJ7_inflate_0 22 rfl rfl)
theorem dJ7_inflate_23 : decode cJ7_inflate 23 = .ok (.iconst 0, 1) := dk_3 (dk_at dksJ7_inflate_0 23 rfl rfl)
theorem dJ7_inflate_24 : decode cJ7_inflate 24 = .ok (.aload_n 0, 1) := dk_42 (dk_at dksJ7_inflate_1 0 rfl rfl)
theorem dJ7_inflate_25 : decode cJ7_inflate 25 = .ok (.getfield 79, 3) := dk_180 0 79 (dk_at dksJ7_inflate_1 1 rfl rfl)
theorem dJ7_inflate_28 : decode cJ7_inflate 28 = .ok (.invokestatic 125, 3) := dk_184 0 125 (dk_at dksJ7_inflate_1 4 rfl rfl)
theorem dJ7_inflate_31 : decode cJ7_inflate 31 = .ok (.aload_n 0, 1) := dk_42 (dk_at dksJ7_inflate_1 7 rfl rfl)
theorem dJ7_inflate_32 : decode cJ7_inflate 32 = .ok (.aload_n 1, 1) := dk_43 (dk_at dksJ7_inflate_1 8 rfl rfl)
theorem dJ7_inflate_33 : decode cJ7_inflate 33 = .ok (.putfield 15, 3) := dk_181 0 15 (dk_at dksJ7_inflate_1 9 rfl rfl)
theorem dJ7_inflate_36 : decode cJ7_inflate 36 = .ok (.aload_n 0, 1) := dk_42 (dk_at dksJ7_inflate_1 12 rfl rfl)
theorem dJ7_inflate_37 : decode cJ7_inflate 37 = .ok (.iconst 1, 1) := dk_4 (dk_at dksJ7_inflate_1 13 rfl rfl)
theorem dJ7_inflate_38 : decode cJ7_inflate 38 = .ok (.putfield 22, 3) := dk_181 0 22 (dk_at dksJ7_inflate_1 14 rfl rfl)
theorem dJ7_inflate_41 : decode cJ7_inflate 41 = .ok (.return_, 1) := dk_177 (dk_at dksJ7_inflate_1 17 rfl rfl)
abbrev cJ7_append_2 : ByteArray := prog_22_method_32_code
def yJ7_append_2 : MethodName := ⟨RJ7, "append", "(I)Ljava/lang/AbstractStringBuilder;"⟩
def dkwJ7_append_2_2 : List UInt8 := [42, 29, 181, 0, 79, 42, 176]
abbrev dktJ7_append_2_2 : List UInt8 := dkwJ7_append_2_2 ++ []
def dkwJ7_append_2_1 : List UInt8 := [27, 29, 42, 180, 0, 15, 184, 0, 248, 87, 167, 0, 14, 27, 28, 29, 42, 180, 0, 15, 184, 0, 251, 87]
abbrev dktJ7_append_2_1 : List UInt8 := dkwJ7_append_2_1 ++ dktJ7_append_2_2
def dkwJ7_append_2_0 : List UInt8 := [42, 180, 0, 79, 61, 28, 27, 184, 0, 245, 96, 62, 42, 29, 182, 0, 100, 42, 182, 0, 83, 153, 0, 16]
abbrev dktJ7_append_2_0 : List UInt8 := dkwJ7_append_2_0 ++ dktJ7_append_2_1
theorem dksJ7_append_2_0 : cJ7_append_2.data.toList.drop 0 = dktJ7_append_2_0 := by decide +kernel
theorem dksJ7_append_2_1 : cJ7_append_2.data.toList.drop 24 = dktJ7_append_2_1 := dk_seg dksJ7_append_2_0 24 rfl rfl
theorem dksJ7_append_2_2 : cJ7_append_2.data.toList.drop 48 = dktJ7_append_2_2 := dk_seg dksJ7_append_2_1 24 rfl rfl
theorem dJ7_append_2_0 : decode cJ7_append_2 0 = .ok (.aload_n 0, 1) := dk_42 (dk_at dksJ7_append_2_0 0 rfl rfl)
theorem dJ7_append_2_1 : decode cJ7_append_2 1 = .ok (.getfield 79, 3) := dk_180 0 79 (dk_at dksJ7_append_2_0 1 rfl rfl)
theorem dJ7_append_2_4 : decode cJ7_append_2 4 = .ok (.istore_n 2, 1) := dk_61 (dk_at dksJ7_append_2_0 4 rfl rfl)
theorem dJ7_append_2_5 : decode cJ7_append_2 5 = .ok (.iload_n 2, 1) := dk_28 (dk_at dksJ7_append_2_0 5 rfl rfl)
theorem dJ7_append_2_6 : decode cJ7_append_2 6 = .ok (.iload_n 1, 1) := dk_27 (dk_at dksJ7_append_2_0 6 rfl rfl)
theorem dJ7_append_2_7 : decode cJ7_append_2 7 = .ok (.invokestatic 245, 3) := dk_184 0 245 (dk_at dksJ7_append_2_0 7 rfl rfl)
theorem dJ7_append_2_10 : decode cJ7_append_2 10 = .ok (.iadd, 1) := dk_96 (dk_at dksJ7_append_2_0 10 rfl rfl)
theorem dJ7_append_2_11 : decode cJ7_append_2 11 = .ok (.istore_n 3, 1) := dk_62 (dk_at dksJ7_append_2_0 11 rfl rfl)
theorem dJ7_append_2_12 : decode cJ7_append_2 12 = .ok (.aload_n 0, 1) := dk_42 (dk_at dksJ7_append_2_0 12 rfl rfl)
theorem dJ7_append_2_13 : decode cJ7_append_2 13 = .ok (.iload_n 3, 1) := dk_29 (dk_at dksJ7_append_2_0 13 rfl rfl)
theorem dJ7_append_2_14 : decode cJ7_append_2 14 = .ok (.invokevirtual 100, 3) := dk_182 0 100 (dk_at dksJ7_append_2_0 14 rfl rfl)
theorem dJ7_append_2_17 : decode cJ7_append_2 17 = .ok (.aload_n 0, 1) := dk_42 (dk_at dksJ7_append_2_0 17 rfl rfl)
theorem dJ7_append_2_18 : decode cJ7_append_2 18 = .ok (.invokevirtual 83, 3) := dk_182 0 83 (dk_at dksJ7_append_2_0 18 rfl rfl)
theorem dJ7_append_2_21 : decode cJ7_append_2 21 = .ok (.ifCond .eq 16, 3) := dk_153 0 16 (dk_at dksJ7_append_2_0 21 rfl rfl)
theorem dJ7_append_2_24 : decode cJ7_append_2 24 = .ok (.iload_n 1, 1) := dk_27 (dk_at dksJ7_append_2_1 0 rfl rfl)
theorem dJ7_append_2_25 : decode cJ7_append_2 25 = .ok (.iload_n 3, 1) := dk_29 (dk_at dksJ7_append_2_1 1 rfl rfl)
theorem dJ7_append_2_26 : decode cJ7_append_2 26 = .ok (.aload_n 0, 1) := dk_42 (dk_at dksJ7_append_2_1 2 rfl rfl)
theorem dJ7_append_2_27 : decode cJ7_append_2 27 = .ok (.getfield 15, 3) := dk_180 0 15 (dk_at dksJ7_append_2_1 3 rfl rfl)
theorem dJ7_append_2_30 : decode cJ7_append_2 30 = .ok (.invokestatic 248, 3) := dk_184 0 248 (dk_at dksJ7_append_2_1 6 rfl rfl)
theorem dJ7_append_2_33 : decode cJ7_append_2 33 = .ok (.pop, 1) := dk_87 (dk_at dksJ7_append_2_1 9 rfl rfl)
theorem dJ7_append_2_34 : decode cJ7_append_2 34 = .ok (.goto 14, 3) := dk_167 0 14 (dk_at dksJ7_append_2_1 10 rfl rfl)
theorem dJ7_append_2_37 : decode cJ7_append_2 37 = .ok (.iload_n 1, 1) := dk_27 (dk_at dksJ7_append_2_1 13 rfl rfl)
theorem dJ7_append_2_38 : decode cJ7_append_2 38 = .ok (.iload_n 2, 1) := dk_28 (dk_at dksJ7_append_2_1 14 rfl rfl)
theorem dJ7_append_2_39 : decode cJ7_append_2 39 = .ok (.iload_n 3, 1) := dk_29 (dk_at dksJ7_append_2_1 15 rfl rfl)
theorem dJ7_append_2_40 : decode cJ7_append_2 40 = .ok (.aload_n 0, 1) := dk_42 (dk_at dksJ7_append_2_1 16 rfl rfl)
theorem dJ7_append_2_41 : decode cJ7_append_2 41 = .ok (.getfield 15, 3) := dk_180 0 15 (dk_at dksJ7_append_2_1 17 rfl rfl)
theorem dJ7_append_2_44 : decode cJ7_append_2 44 = .ok (.invokestatic 251, 3) := dk_184 0 251 (dk_at dksJ7_append_2_1 20 rfl rfl)
theorem dJ7_append_2_47 : decode cJ7_append_2 47 = .ok (.pop, 1) := dk_87 (dk_at dksJ7_append_2_1 23 rfl rfl)
theorem dJ7_append_2_48 : decode cJ7_append_2 48 = .ok (.aload_n 0, 1) := dk_42 (dk_at dksJ7_append_2_2 0 rfl rfl)
theorem dJ7_append_2_49 : decode cJ7_append_2 49 = .ok (.iload_n 3, 1) := dk_29 (dk_at dksJ7_append_2_2 1 rfl rfl)
theorem dJ7_append_2_50 : decode cJ7_append_2 50 = .ok (.putfield 79, 3) := dk_181 0 79 (dk_at dksJ7_append_2_2 2 rfl rfl)
theorem dJ7_append_2_53 : decode cJ7_append_2 53 = .ok (.aload_n 0, 1) := dk_42 (dk_at dksJ7_append_2_2 5 rfl rfl)
theorem dJ7_append_2_54 : decode cJ7_append_2 54 = .ok (.areturn, 1) := dk_176 (dk_at dksJ7_append_2_2 6 rfl rfl)
abbrev cJ7_getValue : ByteArray := prog_22_method_64_code
def yJ7_getValue : MethodName := ⟨RJ7, "getValue", "()[B"⟩
theorem dJ7_getValue_0 : decode cJ7_getValue 0 = .ok (.aload_n 0, 1) := by decide +kernel
theorem dJ7_getValue_1 : decode cJ7_getValue 1 = .ok (.getfield 15, 3) := by decide +kernel
theorem dJ7_getValue_4 : decode cJ7_getValue 4 = .ok (.areturn, 1) := by decide +kernel
abbrev cJ7_length : ByteArray := prog_22_method_6_code
def yJ7_length : MethodName := ⟨RJ7, "length", "()I"⟩
theorem dJ7_length_0 : decode cJ7_length 0 = .ok (.aload_n 0, 1) := by decide +kernel
theorem dJ7_length_1 : decode cJ7_length 1 = .ok (.getfield 79, 3) := by decide +kernel
theorem dJ7_length_4 : decode cJ7_length 4 = .ok (.ireturn, 1) := by decide +kernel
abbrev cJ7_append_3 : ByteArray := prog_22_method_31_code
def yJ7_append_3 : MethodName := ⟨RJ7, "append", "(C)Ljava/lang/AbstractStringBuilder;"⟩
def dkwJ7_append_3_3 : List UInt8 := [181, 0, 79, 27, 184, 0, 197, 42, 176]
abbrev dktJ7_append_3_3 : List UInt8 := dkwJ7_append_3_3 ++ []
def dkwJ7_append_3_2 : List UInt8 := [182, 0, 83, 153, 0, 7, 42, 182, 0, 195, 42, 180, 0, 15, 42, 89, 180, 0, 79, 90, 4, 96]
abbrev dktJ7_append_3_2 : List UInt8 := dkwJ7_append_3_2 ++ dktJ7_append_3_3
def dkwJ7_append_3_1 : List UInt8 := [42, 180, 0, 15, 42, 89, 180, 0, 79, 90, 4, 96, 181, 0, 79, 27, 145, 84, 167, 0, 33, 42]
abbrev dktJ7_append_3_1 : List UInt8 := dkwJ7_append_3_1 ++ dktJ7_append_3_2
def dkwJ7_append_3_0 : List UInt8 := [42, 42, 180, 0, 79, 4, 96, 182, 0, 100, 42, 182, 0, 83, 153, 0, 31, 27, 184, 0, 191, 153, 0, 24]
abbrev dktJ7_append_3_0 : List UInt8 := dkwJ7_append_3_0 ++ dktJ7_append_3_1
theorem dksJ7_append_3_0 : cJ7_append_3.data.toList.drop 0 = dktJ7_append_3_0 := by decide +kernel
theorem dksJ7_append_3_1 : cJ7_append_3.data.toList.drop 24 = dktJ7_append_3_1 := dk_seg dksJ7_append_3_0 24 rfl rfl
theorem dksJ7_append_3_2 : cJ7_append_3.data.toList.drop 46 = dktJ7_append_3_2 := dk_seg dksJ7_append_3_1 22 rfl rfl
theorem dksJ7_append_3_3 : cJ7_append_3.data.toList.drop 68 = dktJ7_append_3_3 := dk_seg dksJ7_append_3_2 22 rfl rfl
theorem dJ7_append_3_0 : decode cJ7_append_3 0 = .ok (.aload_n 0, 1) := dk_42 (dk_at dksJ7_append_3_0 0 rfl rfl)
theorem dJ7_append_3_1 : decode cJ7_append_3 1 = .ok (.aload_n 0, 1) := dk_42 (dk_at dksJ7_append_3_0 1 rfl rfl)
theorem dJ7_append_3_2 : decode cJ7_append_3 2 = .ok (.getfield 79, 3) := dk_180 0 79 (dk_at dksJ7_append_3_0 2 rfl rfl)
theorem dJ7_append_3_5 : decode cJ7_append_3 5 = .ok (.iconst 1, 1) := dk_4 (dk_at dksJ7_append_3_0 5 rfl rfl)
theorem dJ7_append_3_6 : decode cJ7_append_3 6 = .ok (.iadd, 1) := dk_96 (dk_at dksJ7_append_3_0 6 rfl rfl)
theorem dJ7_append_3_7 : decode cJ7_append_3 7 = .ok (.invokevirtual 100, 3) := dk_182 0 100 (dk_at dksJ7_append_3_0 7 rfl rfl)
theorem dJ7_append_3_10 : decode cJ7_append_3 10 = .ok (.aload_n 0, 1) := dk_42 (dk_at dksJ7_append_3_0 10 rfl rfl)
theorem dJ7_append_3_11 : decode cJ7_append_3 11 = .ok (.invokevirtual 83, 3) := dk_182 0 83 (dk_at dksJ7_append_3_0 11 rfl rfl)
theorem dJ7_append_3_14 : decode cJ7_append_3 14 = .ok (.ifCond .eq 31, 3) := dk_153 0 31 (dk_at dksJ7_append_3_0 14 rfl rfl)
theorem dJ7_append_3_17 : decode cJ7_append_3 17 = .ok (.iload_n 1, 1) := dk_27 (dk_at dksJ7_append_3_0 17 rfl rfl)
theorem dJ7_append_3_18 : decode cJ7_append_3 18 = .ok (.invokestatic 191, 3) := dk_184 0 191 (dk_at dksJ7_append_3_0 18 rfl rfl)
theorem dJ7_append_3_21 : decode cJ7_append_3 21 = .ok (.ifCond .eq 24, 3) := dk_153 0 24 (dk_at dksJ7_append_3_0 21 rfl rfl)
theorem dJ7_append_3_24 : decode cJ7_append_3 24 = .ok (.aload_n 0, 1) := dk_42 (dk_at dksJ7_append_3_1 0 rfl rfl)
theorem dJ7_append_3_25 : decode cJ7_append_3 25 = .ok (.getfield 15, 3) := dk_180 0 15 (dk_at dksJ7_append_3_1 1 rfl rfl)
theorem dJ7_append_3_28 : decode cJ7_append_3 28 = .ok (.aload_n 0, 1) := dk_42 (dk_at dksJ7_append_3_1 4 rfl rfl)
theorem dJ7_append_3_29 : decode cJ7_append_3 29 = .ok (.dup, 1) := dk_89 (dk_at dksJ7_append_3_1 5 rfl rfl)
theorem dJ7_append_3_30 : decode cJ7_append_3 30 = .ok (.getfield 79, 3) := dk_180 0 79 (dk_at dksJ7_append_3_1 6 rfl rfl)
theorem dJ7_append_3_33 : decode cJ7_append_3 33 = .ok (.dup_x1, 1) := dk_90 (dk_at dksJ7_append_3_1 9 rfl rfl)
theorem dJ7_append_3_34 : decode cJ7_append_3 34 = .ok (.iconst 1, 1) := dk_4 (dk_at dksJ7_append_3_1 10 rfl rfl)
theorem dJ7_append_3_35 : decode cJ7_append_3 35 = .ok (.iadd, 1) := dk_96 (dk_at dksJ7_append_3_1 11 rfl rfl)
theorem dJ7_append_3_36 : decode cJ7_append_3 36 = .ok (.putfield 79, 3) := dk_181 0 79 (dk_at dksJ7_append_3_1 12 rfl rfl)
theorem dJ7_append_3_39 : decode cJ7_append_3 39 = .ok (.iload_n 1, 1) := dk_27 (dk_at dksJ7_append_3_1 15 rfl rfl)
theorem dJ7_append_3_40 : decode cJ7_append_3 40 = .ok (.i2b, 1) := dk_145 (dk_at dksJ7_append_3_1 16 rfl rfl)
theorem dJ7_append_3_41 : decode cJ7_append_3 41 = .ok (.bastore, 1) := dk_84 (dk_at dksJ7_append_3_1 17 rfl rfl)
theorem dJ7_append_3_42 : decode cJ7_append_3 42 = .ok (.goto 33, 3) := dk_167 0 33 (dk_at dksJ7_append_3_1 18 rfl rfl)
theorem dJ7_append_3_45 : decode cJ7_append_3 45 = .ok (.aload_n 0, 1) := dk_42 (dk_at dksJ7_append_3_1 21 rfl rfl)
theorem dJ7_append_3_46 : decode cJ7_append_3 46 = .ok (.invokevirtual 83, 3) := dk_182 0 83 (dk_at dksJ7_append_3_2 0 rfl rfl)
theorem dJ7_append_3_49 : decode cJ7_append_3 49 = .ok (.ifCond .eq 7, 3) := dk_153 0 7 (dk_at dksJ7_append_3_2 3 rfl rfl)
theorem dJ7_append_3_52 : decode cJ7_append_3 52 = .ok (.aload_n 0, 1) := dk_42 (dk_at dksJ7_append_3_2 6 rfl rfl)
theorem dJ7_append_3_53 : decode cJ7_append_3 53 = .ok (.invokevirtual 195, 3) := dk_182 0 195 (dk_at dksJ7_append_3_2 7 rfl rfl)
theorem dJ7_append_3_56 : decode cJ7_append_3 56 = .ok (.aload_n 0, 1) := dk_42 (dk_at dksJ7_append_3_2 10 rfl rfl)
theorem dJ7_append_3_57 : decode cJ7_append_3 57 = .ok (.getfield 15, 3) := dk_180 0 15 (dk_at dksJ7_append_3_2 11 rfl rfl)
theorem dJ7_append_3_60 : decode cJ7_append_3 60 = .ok (.aload_n 0, 1) := dk_42 (dk_at dksJ7_append_3_2 14 rfl rfl)
theorem dJ7_append_3_61 : decode cJ7_append_3 61 = .ok (.dup, 1) := dk_89 (dk_at dksJ7_append_3_2 15 rfl rfl)
theorem dJ7_append_3_62 : decode cJ7_append_3 62 = .ok (.getfield 79, 3) := dk_180 0 79 (dk_at dksJ7_append_3_2 16 rfl rfl)
theorem dJ7_append_3_65 : decode cJ7_append_3 65 = .ok (.dup_x1, 1) := dk_90 (dk_at dksJ7_append_3_2 19 rfl rfl)
theorem dJ7_append_3_66 : decode cJ7_append_3 66 = .ok (.iconst 1, 1) := dk_4 (dk_at dksJ7_append_3_2 20 rfl rfl)
theorem dJ7_append_3_67 : decode cJ7_append_3 67 = .ok (.iadd, 1) := dk_96 (dk_at dksJ7_append_3_2 21 rfl rfl)
theorem dJ7_append_3_68 : decode cJ7_append_3 68 = .ok (.putfield 79, 3) := dk_181 0 79 (dk_at dksJ7_append_3_3 0 rfl rfl)
theorem dJ7_append_3_71 : decode cJ7_append_3 71 = .ok (.iload_n 1, 1) := dk_27 (dk_at dksJ7_append_3_3 3 rfl rfl)
theorem dJ7_append_3_72 : decode cJ7_append_3 72 = .ok (.invokestatic 197, 3) := dk_184 0 197 (dk_at dksJ7_append_3_3 4 rfl rfl)
theorem dJ7_append_3_75 : decode cJ7_append_3 75 = .ok (.aload_n 0, 1) := dk_42 (dk_at dksJ7_append_3_3 7 rfl rfl)
theorem dJ7_append_3_76 : decode cJ7_append_3 76 = .ok (.areturn, 1) := dk_176 (dk_at dksJ7_append_3_3 8 rfl rfl)
theorem q116 : (Jvm.Cond.initialized "java/lang/AbstractStringBuilder") ∈ lw_all := lw_g (lw_at lw_m1 10 rfl) rfl
theorem q225 : (Jvm.Cond.instanceMethod ({ cls := "java/lang/AbstractStringBuilder", name := "<init>", desc := "(I)V" } : Jvm.MethodName)) ∈ lw_all := lw_g (lw_at lw_m1 119 rfl) rfl
theorem q226 : (Jvm.Cond.code ({ cls := "java/lang/AbstractStringBuilder", name := "<init>", desc := "(I)V" } : Jvm.MethodName) prog_22_method_2_code (2 : Nat) (Option.none : Option Jvm.ClassFile.FieldType)) ∈ lw_all := lw_g (lw_at lw_m1 120 rfl) rfl
theorem q227 : (Jvm.Cond.methodLink "java/lang/AbstractStringBuilder" (3 : Nat) ({ cls := "java/lang/Object", name := "<init>", desc := "()V" } : Jvm.MethodName)) ∈ lw_all := lw_g (lw_at lw_m1 121 rfl) rfl
theorem q228 : (Jvm.Cond.fieldLink "java/lang/AbstractStringBuilder" (18 : Nat) "java/lang/String" "COMPACT_STRINGS" "Z") ∈ lw_all := lw_g (lw_at lw_m1 122 rfl) rfl
theorem q230 : (Jvm.Cond.methodLink "java/lang/AbstractStringBuilder" (26 : Nat) ({ cls := "java/lang/StringUTF16", name := "newBytesFor", desc := "(I)[B" } : Jvm.MethodName)) ∈ lw_all := lw_g (lw_at lw_m1 124 rfl) rfl
theorem q237 : (Jvm.Cond.fieldLink "java/lang/AbstractStringBuilder" (15 : Nat) "java/lang/AbstractStringBuilder" "value" "[B") ∈ lw_all := lw_g (lw_at lw_m1 131 rfl) rfl
theorem q238 : (Jvm.Cond.fieldLink "java/lang/AbstractStringBuilder" (22 : Nat) "java/lang/AbstractStringBuilder" "coder" "B") ∈ lw_all := lw_g (lw_at lw_m1 132 rfl) rfl
theorem q240 : (Jvm.Cond.fieldLink "java/lang/AbstractStringBuilder" (79 : Nat) "java/lang/AbstractStringBuilder" "count" "I") ∈ lw_all := lw_g (lw_at lw_m1 134 rfl) rfl
theorem q242 : (Jvm.Cond.soleField "java/lang/AbstractStringBuilder" "value") ∈ lw_all := lw_g (lw_at lw_m1 136 rfl) rfl
theorem q244 : (Jvm.Cond.soleField "java/lang/AbstractStringBuilder" "coder") ∈ lw_all := lw_g (lw_at lw_m1 138 rfl) rfl
theorem q246 : (Jvm.Cond.soleField "java/lang/AbstractStringBuilder" "maybeLatin1") ∈ lw_all := lw_g (lw_at lw_m1 140 rfl) rfl
theorem q248 : (Jvm.Cond.soleField "java/lang/AbstractStringBuilder" "count") ∈ lw_all := lw_g (lw_at lw_m1 142 rfl) rfl
theorem q257 : (Jvm.Cond.instanceMethod ({ cls := "java/lang/AbstractStringBuilder", name := "append", desc := "(Ljava/lang/String;)Ljava/lang/AbstractStringBuilder;" } : Jvm.MethodName)) ∈ lw_all := lw_g (lw_at lw_m1 151 rfl) rfl
theorem q258 : (Jvm.Cond.code ({ cls := "java/lang/AbstractStringBuilder", name := "append", desc := "(Ljava/lang/String;)Ljava/lang/AbstractStringBuilder;" } : Jvm.MethodName) prog_22_method_22_code (3 : Nat) (Option.some (Jvm.ClassFile.FieldType.object "java/lang/AbstractStringBuilder"))) ∈ lw_all := lw_g (lw_at lw_m1 152 rfl) rfl
theorem q259 : (Jvm.Cond.methodLink "java/lang/AbstractStringBuilder" (204 : Nat) ({ cls := "java/lang/AbstractStringBuilder", name := "appendNull", desc := "()Ljava/lang/AbstractStringBuilder;" } : Jvm.MethodName)) ∈ lw_all := lw_g (lw_at lw_m1 153 rfl) rfl
theorem q260 : (Jvm.Cond.privateMethod ({ cls := "java/lang/AbstractStringBuilder", name := "appendNull", desc := "()Ljava/lang/AbstractStringBuilder;" } : Jvm.MethodName)) ∈ lw_tbl := lw_at lw_m1 154 rfl
theorem q261 : (Jvm.Cond.instanceMethod ({ cls := "java/lang/AbstractStringBuilder", name := "appendNull", desc := "()Ljava/lang/AbstractStringBuilder;" } : Jvm.MethodName)) ∈ lw_all := lw_g (lw_at lw_m1 155 rfl) rfl
theorem q262 : (Jvm.Cond.code ({ cls := "java/lang/AbstractStringBuilder", name := "appendNull", desc := "()Ljava/lang/AbstractStringBuilder;" } : Jvm.MethodName) prog_22_method_26_code (3 : Nat) (Option.some (Jvm.ClassFile.FieldType.object "java/lang/AbstractStringBuilder"))) ∈ lw_all := lw_g (lw_at lw_m1 156 rfl) rfl
theorem q263 : (Jvm.Cond.methodLink "java/lang/AbstractStringBuilder" (100 : Nat) ({ cls := "java/lang/AbstractStringBuilder", name := "ensureCapacityInternal", desc := "(I)V" } : Jvm.MethodName)) ∈ lw_all := lw_g (lw_at lw_m1 157 rfl) rfl
theorem q264 : (Jvm.Cond.privateMethod ({ cls := "java/lang/AbstractStringBuilder", name := "ensureCapacityInternal", desc := "(I)V" } : Jvm.MethodName)) ∈ lw_tbl := lw_at lw_m1 158 rfl
theorem q265 : (Jvm.Cond.instanceMethod ({ cls := "java/lang/AbstractStringBuilder", name := "ensureCapacityInternal", desc := "(I)V" } : Jvm.MethodName)) ∈ lw_all := lw_g (lw_at lw_m1 159 rfl) rfl
theorem q266 : (Jvm.Cond.code ({ cls := "java/lang/AbstractStringBuilder", name := "ensureCapacityInternal", desc := "(I)V" } : Jvm.MethodName) prog_22_method_9_code (3 : Nat) (Option.none : Option Jvm.ClassFile.FieldType)) ∈ lw_all := lw_g (lw_at lw_m1 160 rfl) rfl
theorem q267 : (Jvm.Cond.methodLink "java/lang/AbstractStringBuilder" (104 : Nat) ({ cls := "java/lang/AbstractStringBuilder", name := "newCapacity", desc := "(I)I" } : Jvm.MethodName)) ∈ lw_all := lw_g (lw_at lw_m1 161 rfl) rfl
theorem q268 : (Jvm.Cond.privateMethod ({ cls := "java/lang/AbstractStringBuilder", name := "newCapacity", desc := "(I)I" } : Jvm.MethodName)) ∈ lw_tbl := lw_at lw_m1 162 rfl
theorem q269 : (Jvm.Cond.instanceMethod ({ cls := "java/lang/AbstractStringBuilder", name := "newCapacity", desc := "(I)I" } : Jvm.MethodName)) ∈ lw_all := lw_g (lw_at lw_m1 163 rfl) rfl
theorem q270 : (Jvm.Cond.code ({ cls := "java/lang/AbstractStringBuilder", name := "newCapacity", desc := "(I)I" } : Jvm.MethodName) prog_22_method_10_code (6 : Nat) (Option.some Jvm.ClassFile.FieldType.int)) ∈ lw_all := lw_g (lw_at lw_m1 164 rfl) rfl
theorem q271 : (Jvm.Cond.methodLink "java/lang/AbstractStringBuilder" (114 : Nat) ({ cls := "jdk/internal/util/ArraysSupport", name := "newLength", desc := "(III)I" } : Jvm.MethodName)) ∈ lw_all := lw_g (lw_at lw_m1 165 rfl) rfl
theorem q281 : (Jvm.Cond.constant "java/lang/AbstractStringBuilder" (39 : Nat) (2147483647 : Int32)) ∈ lw_all := lw_g (lw_at lw_m1 175 rfl) rfl
theorem q282 : (Jvm.Cond.methodLink "java/lang/AbstractStringBuilder" (108 : Nat) ({ cls := "java/util/Arrays", name := "copyOf", desc := "([BI)[B" } : Jvm.MethodName)) ∈ lw_all := lw_g (lw_at lw_m1 176 rfl) rfl
theorem q298 : (Jvm.Cond.methodLink "java/lang/AbstractStringBuilder" (83 : Nat) ({ cls := "java/lang/AbstractStringBuilder", name := "isLatin1", desc := "()Z" } : Jvm.MethodName)) ∈ lw_all := lw_g (lw_at lw_m1 192 rfl) rfl
theorem q299 : (Jvm.Cond.instanceMethod ({ cls := "java/lang/AbstractStringBuilder", name := "isLatin1", desc := "()Z" } : Jvm.MethodName)) ∈ lw_all := lw_g (lw_at lw_m1 193 rfl) rfl
theorem q300 : (Jvm.Cond.sameMethod "java/lang/AbstractStringBuilder" "java/lang/AbstractStringBuilder" "isLatin1" "()Z") ∈ lw_all := lw_g (lw_at lw_m1 194 rfl) rfl
theorem q302 : (Jvm.Cond.code ({ cls := "java/lang/AbstractStringBuilder", name := "isLatin1", desc := "()Z" } : Jvm.MethodName) prog_22_method_68_code (1 : Nat) (Option.some Jvm.ClassFile.FieldType.boolean)) ∈ lw_all := lw_g (lw_at lw_m1 196 rfl) rfl
theorem q303 : (Jvm.Cond.methodLink "java/lang/AbstractStringBuilder" (226 : Nat) ({ cls := "java/lang/StringUTF16", name := "putCharsAt", desc := "([BICCCC)I" } : Jvm.MethodName)) ∈ lw_all := lw_g (lw_at lw_m1 197 rfl) rfl
theorem q329 : (Jvm.Cond.methodLink "java/lang/AbstractStringBuilder" (32 : Nat) ({ cls := "java/lang/String", name := "length", desc := "()I" } : Jvm.MethodName)) ∈ lw_all := lw_g (lw_at lw_m1 223 rfl) rfl
theorem q338 : (Jvm.Cond.methodLink "java/lang/AbstractStringBuilder" (208 : Nat) ({ cls := "java/lang/AbstractStringBuilder", name := "putStringAt", desc := "(ILjava/lang/String;)V" } : Jvm.MethodName)) ∈ lw_all := lw_g (lw_at lw_m1 232 rfl) rfl
theorem q339 : (Jvm.Cond.privateMethod ({ cls := "java/lang/AbstractStringBuilder", name := "putStringAt", desc := "(ILjava/lang/String;)V" } : Jvm.MethodName)) ∈ lw_tbl := lw_at lw_m1 233 rfl
theorem q340 : (Jvm.Cond.instanceMethod ({ cls := "java/lang/AbstractStringBuilder", name := "putStringAt", desc := "(ILjava/lang/String;)V" } : Jvm.MethodName)) ∈ lw_all := lw_g (lw_at lw_m1 234 rfl) rfl
theorem q341 : (Jvm.Cond.code ({ cls := "java/lang/AbstractStringBuilder", name := "putStringAt", desc := "(ILjava/lang/String;)V" } : Jvm.MethodName) prog_22_method_73_code (3 : Nat) (Option.none : Option Jvm.ClassFile.FieldType)) ∈ lw_all := lw_g (lw_at lw_m1 235 rfl) rfl
theorem q342 : (Jvm.Cond.methodLink "java/lang/AbstractStringBuilder" (397 : Nat) ({ cls := "java/lang/AbstractStringBuilder", name := "inflateIfNeededFor", desc := "(Ljava/lang/String;)V" } : Jvm.MethodName)) ∈ lw_all := lw_g (lw_at lw_m1 236 rfl) rfl
theorem q343 : (Jvm.Cond.privateMethod ({ cls := "java/lang/AbstractStringBuilder", name := "inflateIfNeededFor", desc := "(Ljava/lang/String;)V" } : Jvm.MethodName)) ∈ lw_tbl := lw_at lw_m1 237 rfl
theorem q344 : (Jvm.Cond.instanceMethod ({ cls := "java/lang/AbstractStringBuilder", name := "inflateIfNeededFor", desc := "(Ljava/lang/String;)V" } : Jvm.MethodName)) ∈ lw_all := lw_g (lw_at lw_m1 238 rfl) rfl
theorem q345 : (Jvm.Cond.code ({ cls := "java/lang/AbstractStringBuilder", name := "inflateIfNeededFor", desc := "(Ljava/lang/String;)V" } : Jvm.MethodName) prog_22_method_71_code (2 : Nat) (Option.none : Option Jvm.ClassFile.FieldType)) ∈ lw_all := lw_g (lw_at lw_m1 239 rfl) rfl
theorem q346 : (Jvm.Cond.methodLink "java/lang/AbstractStringBuilder" (40 : Nat) ({ cls := "java/lang/String", name := "coder", desc := "()B" } : Jvm.MethodName)) ∈ lw_all := lw_g (lw_at lw_m2 0 rfl) rfl
theorem q347 : (Jvm.Cond.methodLink "java/lang/AbstractStringBuilder" (195 : Nat) ({ cls := "java/lang/AbstractStringBuilder", name := "inflate", desc := "()V" } : Jvm.MethodName)) ∈ lw_all := lw_g (lw_at lw_m2 1 rfl) rfl
theorem q348 : (Jvm.Cond.privateMethod ({ cls := "java/lang/AbstractStringBuilder", name := "inflate", desc := "()V" } : Jvm.MethodName)) ∈ lw_tbl := lw_at lw_m2 2 rfl
theorem q349 : (Jvm.Cond.instanceMethod ({ cls := "java/lang/AbstractStringBuilder", name := "inflate", desc := "()V" } : Jvm.MethodName)) ∈ lw_all := lw_g (lw_at lw_m2 3 rfl) rfl
theorem q350 : (Jvm.Cond.code ({ cls := "java/lang/AbstractStringBuilder", name := "inflate", desc := "()V" } : Jvm.MethodName) prog_22_method_11_code (2 : Nat) (Option.none : Option Jvm.ClassFile.FieldType)) ∈ lw_all := lw_g (lw_at lw_m2 4 rfl) rfl
theorem q351 : (Jvm.Cond.methodLink "java/lang/AbstractStringBuilder" (125 : Nat) ({ cls := "java/lang/StringLatin1", name := "inflate", desc := "([BI[BII)V" } : Jvm.MethodName)) ∈ lw_all := lw_g (lw_at lw_m2 5 rfl) rfl
theorem q366 : (Jvm.Cond.methodLink "java/lang/AbstractStringBuilder" (399 : Nat) ({ cls := "java/lang/String", name := "getBytes", desc := "([BIB)V" } : Jvm.MethodName)) ∈ lw_all := lw_g (lw_at lw_m2 20 rfl) rfl
theorem q377 : (Jvm.Cond.instanceMethod ({ cls := "java/lang/AbstractStringBuilder", name := "append", desc := "(I)Ljava/lang/AbstractStringBuilder;" } : Jvm.MethodName)) ∈ lw_all := lw_g (lw_at lw_m2 31 rfl) rfl
theorem q378 : (Jvm.Cond.code ({ cls := "java/lang/AbstractStringBuilder", name := "append", desc := "(I)Ljava/lang/AbstractStringBuilder;" } : Jvm.MethodName) prog_22_method_32_code (4 : Nat) (Option.some (Jvm.ClassFile.FieldType.object "java/lang/AbstractStringBuilder"))) ∈ lw_all := lw_g (lw_at lw_m2 32 rfl) rfl
theorem q379 : (Jvm.Cond.methodLink "java/lang/AbstractStringBuilder" (245 : Nat) ({ cls := "java/lang/Integer", name := "stringSize", desc := "(I)I" } : Jvm.MethodName)) ∈ lw_all := lw_g (lw_at lw_m2 33 rfl) rfl
theorem q382 : (Jvm.Cond.methodLink "java/lang/AbstractStringBuilder" (248 : Nat) ({ cls := "java/lang/Integer", name := "getChars", desc := "(II[B)I" } : Jvm.MethodName)) ∈ lw_all := lw_g (lw_at lw_m2 36 rfl) rfl
theorem q389 : (Jvm.Cond.methodLink "java/lang/AbstractStringBuilder" (251 : Nat) ({ cls := "java/lang/StringUTF16", name := "getChars", desc := "(III[B)I" } : Jvm.MethodName)) ∈ lw_all := lw_g (lw_at lw_m2 43 rfl) rfl
theorem q411 : (Jvm.Cond.instanceMethod ({ cls := "java/lang/AbstractStringBuilder", name := "getValue", desc := "()[B" } : Jvm.MethodName)) ∈ lw_all := lw_g (lw_at lw_m2 65 rfl) rfl
theorem q412 : (Jvm.Cond.sameMethod "java/lang/AbstractStringBuilder" "java/lang/AbstractStringBuilder" "getValue" "()[B") ∈ lw_all := lw_g (lw_at lw_m2 66 rfl) rfl
theorem q414 : (Jvm.Cond.code ({ cls := "java/lang/AbstractStringBuilder", name := "getValue", desc := "()[B" } : Jvm.MethodName) prog_22_method_64_code (1 : Nat) (Option.some (Jvm.ClassFile.FieldType.array Jvm.ClassFile.FieldType.byte))) ∈ lw_all := lw_g (lw_at lw_m2 68 rfl) rfl
theorem q416 : (Jvm.Cond.instanceMethod ({ cls := "java/lang/AbstractStringBuilder", name := "length", desc := "()I" } : Jvm.MethodName)) ∈ lw_all := lw_g (lw_at lw_m2 70 rfl) rfl
theorem q417 : (Jvm.Cond.sameMethod "java/lang/AbstractStringBuilder" "java/lang/AbstractStringBuilder" "length" "()I") ∈ lw_all := lw_g (lw_at lw_m2 71 rfl) rfl
theorem q422 : (Jvm.Cond.code ({ cls := "java/lang/AbstractStringBuilder", name := "length", desc := "()I" } : Jvm.MethodName) prog_22_method_6_code (1 : Nat) (Option.some Jvm.ClassFile.FieldType.int)) ∈ lw_all := lw_g (lw_at lw_m2 76 rfl) rfl
theorem q1182 : (Jvm.Cond.instanceMethod ({ cls := "java/lang/AbstractStringBuilder", name := "append", desc := "(C)Ljava/lang/AbstractStringBuilder;" } : Jvm.MethodName)) ∈ lw_all := lw_g (lw_at lw_m5 116 rfl) rfl
theorem q1183 : (Jvm.Cond.code ({ cls := "java/lang/AbstractStringBuilder", name := "append", desc := "(C)Ljava/lang/AbstractStringBuilder;" } : Jvm.MethodName) prog_22_method_31_code (2 : Nat) (Option.some (Jvm.ClassFile.FieldType.object "java/lang/AbstractStringBuilder"))) ∈ lw_all := lw_g (lw_at lw_m5 117 rfl) rfl
theorem q1184 : (Jvm.Cond.methodLink "java/lang/AbstractStringBuilder" (191 : Nat) ({ cls := "java/lang/StringLatin1", name := "canEncode", desc := "(C)Z" } : Jvm.MethodName)) ∈ lw_all := lw_g (lw_at lw_m5 118 rfl) rfl
theorem q1187 : (Jvm.Cond.methodLink "java/lang/AbstractStringBuilder" (197 : Nat) ({ cls := "java/lang/StringUTF16", name := "putCharSB", desc := "([BII)V" } : Jvm.MethodName)) ∈ lw_all := lw_g (lw_at lw_m5 121 rfl) rfl
theorem q2376 : (Jvm.Cond.sameMethod "java/lang/AbstractStringBuilder" "java/lang/AbstractStringBuilder" "append" "(Ljava/lang/String;)Ljava/lang/AbstractStringBuilder;") ∈ lw_all := lw_g (lw_at lw_m10 110 rfl) rfl
theorem q2377 : (Jvm.Cond.sameMethod "java/lang/AbstractStringBuilder" "java/lang/AbstractStringBuilder" "appendNull" "()Ljava/lang/AbstractStringBuilder;") ∈ lw_all := lw_g (lw_at lw_m10 111 rfl) rfl
theorem q2378 : (Jvm.Cond.sameMethod "java/lang/AbstractStringBuilder" "java/lang/AbstractStringBuilder" "ensureCapacityInternal" "(I)V") ∈ lw_all := lw_g (lw_at lw_m10 112 rfl) rfl
theorem q2379 : (Jvm.Cond.sameMethod "java/lang/AbstractStringBuilder" "java/lang/AbstractStringBuilder" "newCapacity" "(I)I") ∈ lw_all := lw_g (lw_at lw_m10 113 rfl) rfl
theorem q2380 : (Jvm.Cond.sameMethod "java/lang/AbstractStringBuilder" "java/lang/AbstractStringBuilder" "putStringAt" "(ILjava/lang/String;)V") ∈ lw_all := lw_g (lw_at lw_m10 114 rfl) rfl
theorem q2381 : (Jvm.Cond.sameMethod "java/lang/AbstractStringBuilder" "java/lang/AbstractStringBuilder" "inflateIfNeededFor" "(Ljava/lang/String;)V") ∈ lw_all := lw_g (lw_at lw_m10 115 rfl) rfl
theorem q2382 : (Jvm.Cond.sameMethod "java/lang/AbstractStringBuilder" "java/lang/AbstractStringBuilder" "inflate" "()V") ∈ lw_all := lw_g (lw_at lw_m10 116 rfl) rfl
theorem q2383 : (Jvm.Cond.sameMethod "java/lang/AbstractStringBuilder" "java/lang/AbstractStringBuilder" "append" "(I)Ljava/lang/AbstractStringBuilder;") ∈ lw_all := lw_g (lw_at lw_m10 117 rfl) rfl
theorem q2387 : (Jvm.Cond.sameMethod "java/lang/AbstractStringBuilder" "java/lang/AbstractStringBuilder" "append" "(C)Ljava/lang/AbstractStringBuilder;") ∈ lw_all := lw_g (lw_at lw_m10 121 rfl) rfl
/-! java/lang/StringBuilder -/
set_option maxRecDepth 100000
def RJ8 : String := "java/lang/StringBuilder"
def TJ8 : u_T := fun k => match k with
  | 0 => ("java/lang/AbstractStringBuilder", "value", "[B", false)
  | 1 => ("java/lang/AbstractStringBuilder", "coder", "B", false)
  | 2 => ("java/lang/AbstractStringBuilder", "maybeLatin1", "Z", false)
  | _ => ("java/lang/AbstractStringBuilder", "count", "I", false)
def tyJ8 : Nat → FieldType := fun k => match k with
  | 0 => .array .byte
  | 1 => .byte
  | 2 => .boolean
  | _ => .int
abbrev wsJ80 : List Cond := u_ws RJ8 TJ8 4
theorem nmJ8 : ∀ a, a < 4 → ∀ b, b < 4 → a ≠ b → (TJ8 a).2.1 ≠ (TJ8 b).2.1 := by decide +kernel
theorem tyJ8_ok : ∀ k, k < 4 → parseFieldDescriptor (TJ8 k).2.2.1 = some (tyJ8 k) := by decide +kernel
abbrev cJ8_init : ByteArray := prog_36_method_1_code
def yJ8_init : MethodName := ⟨RJ8, "<init>", "()V"⟩
def dkwJ8_init_0 : List UInt8 := [42, 16, 16, 183, 0, 1, 177]
abbrev dktJ8_init_0 : List UInt8 := dkwJ8_init_0 ++ []
theorem dksJ8_init_0 : cJ8_init.data.toList.drop 0 = dktJ8_init_0 := by decide +kernel
theorem dJ8_init_0 : decode cJ8_init 0 = .ok (.aload_n 0, 1) := dk_42 (dk_at dksJ8_init_0 0 rfl rfl)
theorem dJ8_init_1 : decode cJ8_init 1 = .ok (.bipush 16, 2) := dk_16 16 (dk_at dksJ8_init_0 1 rfl rfl)
theorem dJ8_init_3 : decode cJ8_init 3 = .ok (.invokespecial 1, 3) := dk_183 0 1 (dk_at dksJ8_init_0 3 rfl rfl)
theorem dJ8_init_6 : decode cJ8_init 6 = .ok (.return_, 1) := dk_177 (dk_at dksJ8_init_0 6 rfl rfl)
abbrev cJ8_append : ByteArray := prog_36_method_7_code
def yJ8_append : MethodName := ⟨RJ8, "append", "(Ljava/lang/String;)Ljava/lang/StringBuilder;"⟩
def dkwJ8_append_0 : List UInt8 := [42, 43, 183, 0, 29, 87, 42, 176]
abbrev dktJ8_append_0 : List UInt8 := dkwJ8_append_0 ++ []
theorem dksJ8_append_0 : cJ8_append.data.toList.drop 0 = dktJ8_append_0 := by decide +kernel
theorem dJ8_append_0 : decode cJ8_append 0 = .ok (.aload_n 0, 1) := dk_42 (dk_at dksJ8_append_0 0 rfl rfl)
theorem dJ8_append_1 : decode cJ8_append 1 = .ok (.aload_n 1, 1) := dk_43 (dk_at dksJ8_append_0 1 rfl rfl)
theorem dJ8_append_2 : decode cJ8_append 2 = .ok (.invokespecial 29, 3) := dk_183 0 29 (dk_at dksJ8_append_0 2 rfl rfl)
theorem dJ8_append_5 : decode cJ8_append 5 = .ok (.pop, 1) := dk_87 (dk_at dksJ8_append_0 5 rfl rfl)
theorem dJ8_append_6 : decode cJ8_append 6 = .ok (.aload_n 0, 1) := dk_42 (dk_at dksJ8_append_0 6 rfl rfl)
theorem dJ8_append_7 : decode cJ8_append 7 = .ok (.areturn, 1) := dk_176 (dk_at dksJ8_append_0 7 rfl rfl)
abbrev cJ8_append_2 : ByteArray := prog_36_method_15_code
def yJ8_append_2 : MethodName := ⟨RJ8, "append", "(I)Ljava/lang/StringBuilder;"⟩
def dkwJ8_append_2_0 : List UInt8 := [42, 27, 183, 0, 53, 87, 42, 176]
abbrev dktJ8_append_2_0 : List UInt8 := dkwJ8_append_2_0 ++ []
theorem dksJ8_append_2_0 : cJ8_append_2.data.toList.drop 0 = dktJ8_append_2_0 := by decide +kernel
theorem dJ8_append_2_0 : decode cJ8_append_2 0 = .ok (.aload_n 0, 1) := dk_42 (dk_at dksJ8_append_2_0 0 rfl rfl)
theorem dJ8_append_2_1 : decode cJ8_append_2 1 = .ok (.iload_n 1, 1) := dk_27 (dk_at dksJ8_append_2_0 1 rfl rfl)
theorem dJ8_append_2_2 : decode cJ8_append_2 2 = .ok (.invokespecial 53, 3) := dk_183 0 53 (dk_at dksJ8_append_2_0 2 rfl rfl)
theorem dJ8_append_2_5 : decode cJ8_append_2 5 = .ok (.pop, 1) := dk_87 (dk_at dksJ8_append_2_0 5 rfl rfl)
theorem dJ8_append_2_6 : decode cJ8_append_2 6 = .ok (.aload_n 0, 1) := dk_42 (dk_at dksJ8_append_2_0 6 rfl rfl)
theorem dJ8_append_2_7 : decode cJ8_append_2 7 = .ok (.areturn, 1) := dk_176 (dk_at dksJ8_append_2_0 7 rfl rfl)
abbrev cJ8_toString : ByteArray := prog_36_method_42_code
def yJ8_toString : MethodName := ⟨RJ8, "toString", "()Ljava/lang/String;"⟩
def dkwJ8_toString_0 : List UInt8 := [187, 0, 18, 89, 42, 183, 0, 137, 176]
abbrev dktJ8_toString_0 : List UInt8 := dkwJ8_toString_0 ++ []
theorem dksJ8_toString_0 : cJ8_toString.data.toList.drop 0 = dktJ8_toString_0 := by decide +kernel
theorem dJ8_toString_0 : decode cJ8_toString 0 = .ok (.new 18, 3) := dk_187 0 18 (dk_at dksJ8_toString_0 0 rfl rfl)
theorem dJ8_toString_3 : decode cJ8_toString 3 = .ok (.dup, 1) := dk_89 (dk_at dksJ8_toString_0 3 rfl rfl)
theorem dJ8_toString_4 : decode cJ8_toString 4 = .ok (.aload_n 0, 1) := dk_42 (dk_at dksJ8_toString_0 4 rfl rfl)
theorem dJ8_toString_5 : decode cJ8_toString 5 = .ok (.invokespecial 137, 3) := dk_183 0 137 (dk_at dksJ8_toString_0 5 rfl rfl)
theorem dJ8_toString_8 : decode cJ8_toString 8 = .ok (.areturn, 1) := dk_176 (dk_at dksJ8_toString_0 8 rfl rfl)
abbrev cJ8_length : ByteArray := prog_36_method_93_code
def yJ8_length : MethodName := ⟨RJ8, "length", "()I"⟩
theorem dJ8_length_0 : decode cJ8_length 0 = .ok (.aload_n 0, 1) := by decide +kernel
theorem dJ8_length_1 : decode cJ8_length 1 = .ok (.invokespecial 343, 3) := by decide +kernel
theorem dJ8_length_4 : decode cJ8_length 4 = .ok (.ireturn, 1) := by decide +kernel
abbrev cJ8_init_2 : ByteArray := prog_36_method_2_code
def yJ8_init_2 : MethodName := ⟨RJ8, "<init>", "(I)V"⟩
def dkwJ8_init_2_0 : List UInt8 := [42, 27, 183, 0, 1, 177]
abbrev dktJ8_init_2_0 : List UInt8 := dkwJ8_init_2_0 ++ []
theorem dksJ8_init_2_0 : cJ8_init_2.data.toList.drop 0 = dktJ8_init_2_0 := by decide +kernel
theorem dJ8_init_2_0 : decode cJ8_init_2 0 = .ok (.aload_n 0, 1) := dk_42 (dk_at dksJ8_init_2_0 0 rfl rfl)
theorem dJ8_init_2_1 : decode cJ8_init_2 1 = .ok (.iload_n 1, 1) := dk_27 (dk_at dksJ8_init_2_0 1 rfl rfl)
theorem dJ8_init_2_2 : decode cJ8_init_2 2 = .ok (.invokespecial 1, 3) := dk_183 0 1 (dk_at dksJ8_init_2_0 2 rfl rfl)
theorem dJ8_init_2_5 : decode cJ8_init_2 5 = .ok (.return_, 1) := dk_177 (dk_at dksJ8_init_2_0 5 rfl rfl)
abbrev cJ8_append_3 : ByteArray := prog_36_method_14_code
def yJ8_append_3 : MethodName := ⟨RJ8, "append", "(C)Ljava/lang/StringBuilder;"⟩
def dkwJ8_append_3_0 : List UInt8 := [42, 27, 183, 0, 50, 87, 42, 176]
abbrev dktJ8_append_3_0 : List UInt8 := dkwJ8_append_3_0 ++ []
theorem dksJ8_append_3_0 : cJ8_append_3.data.toList.drop 0 = dktJ8_append_3_0 := by decide +kernel
theorem dJ8_append_3_0 : decode cJ8_append_3 0 = .ok (.aload_n 0, 1) := dk_42 (dk_at dksJ8_append_3_0 0 rfl rfl)
theorem dJ8_append_3_1 : decode cJ8_append_3 1 = .ok (.iload_n 1, 1) := dk_27 (dk_at dksJ8_append_3_0 1 rfl rfl)
theorem dJ8_append_3_2 : decode cJ8_append_3 2 = .ok (.invokespecial 50, 3) := dk_183 0 50 (dk_at dksJ8_append_3_0 2 rfl rfl)
theorem dJ8_append_3_5 : decode cJ8_append_3 5 = .ok (.pop, 1) := dk_87 (dk_at dksJ8_append_3_0 5 rfl rfl)
theorem dJ8_append_3_6 : decode cJ8_append_3 6 = .ok (.aload_n 0, 1) := dk_42 (dk_at dksJ8_append_3_0 6 rfl rfl)
theorem dJ8_append_3_7 : decode cJ8_append_3 7 = .ok (.areturn, 1) := dk_176 (dk_at dksJ8_append_3_0 7 rfl rfl)
theorem q117 : (Jvm.Cond.initialized "java/lang/StringBuilder") ∈ lw_all := lw_g (lw_at lw_m1 11 rfl) rfl
theorem q220 : (Jvm.Cond.instantiable "java/lang/StringBuilder" (4 : Nat)) ∈ lw_all := lw_g (lw_at lw_m1 114 rfl) rfl
theorem q222 : (Jvm.Cond.instanceMethod ({ cls := "java/lang/StringBuilder", name := "<init>", desc := "()V" } : Jvm.MethodName)) ∈ lw_all := lw_g (lw_at lw_m1 116 rfl) rfl
theorem q223 : (Jvm.Cond.code ({ cls := "java/lang/StringBuilder", name := "<init>", desc := "()V" } : Jvm.MethodName) prog_36_method_1_code (1 : Nat) (Option.none : Option Jvm.ClassFile.FieldType)) ∈ lw_all := lw_g (lw_at lw_m1 117 rfl) rfl
theorem q224 : (Jvm.Cond.methodLink "java/lang/StringBuilder" (1 : Nat) ({ cls := "java/lang/AbstractStringBuilder", name := "<init>", desc := "(I)V" } : Jvm.MethodName)) ∈ lw_all := lw_g (lw_at lw_m1 118 rfl) rfl
theorem q241 : (Jvm.Cond.lays "java/lang/StringBuilder" "java/lang/AbstractStringBuilder" "value" "[B") ∈ lw_all := lw_g (lw_at lw_m1 135 rfl) rfl
theorem q243 : (Jvm.Cond.lays "java/lang/StringBuilder" "java/lang/AbstractStringBuilder" "coder" "B") ∈ lw_all := lw_g (lw_at lw_m1 137 rfl) rfl
theorem q245 : (Jvm.Cond.lays "java/lang/StringBuilder" "java/lang/AbstractStringBuilder" "maybeLatin1" "Z") ∈ lw_all := lw_g (lw_at lw_m1 139 rfl) rfl
theorem q247 : (Jvm.Cond.lays "java/lang/StringBuilder" "java/lang/AbstractStringBuilder" "count" "I") ∈ lw_all := lw_g (lw_at lw_m1 141 rfl) rfl
theorem q249 : (Jvm.Cond.superclass "java/lang/StringBuilder" "java/lang/AbstractStringBuilder") ∈ lw_all := lw_g (lw_at lw_m1 143 rfl) rfl
theorem q253 : (Jvm.Cond.instanceMethod ({ cls := "java/lang/StringBuilder", name := "append", desc := "(Ljava/lang/String;)Ljava/lang/StringBuilder;" } : Jvm.MethodName)) ∈ lw_all := lw_g (lw_at lw_m1 147 rfl) rfl
theorem q254 : (Jvm.Cond.selects "java/lang/StringBuilder" ({ cls := "java/lang/StringBuilder", name := "append", desc := "(Ljava/lang/String;)Ljava/lang/StringBuilder;" } : Jvm.MethodName) ({ cls := "java/lang/StringBuilder", name := "append", desc := "(Ljava/lang/String;)Ljava/lang/StringBuilder;" } : Jvm.MethodName)) ∈ lw_all := lw_g (lw_at lw_m1 148 rfl) rfl
theorem q255 : (Jvm.Cond.code ({ cls := "java/lang/StringBuilder", name := "append", desc := "(Ljava/lang/String;)Ljava/lang/StringBuilder;" } : Jvm.MethodName) prog_36_method_7_code (2 : Nat) (Option.some (Jvm.ClassFile.FieldType.object "java/lang/StringBuilder"))) ∈ lw_all := lw_g (lw_at lw_m1 149 rfl) rfl
theorem q256 : (Jvm.Cond.methodLink "java/lang/StringBuilder" (29 : Nat) ({ cls := "java/lang/AbstractStringBuilder", name := "append", desc := "(Ljava/lang/String;)Ljava/lang/AbstractStringBuilder;" } : Jvm.MethodName)) ∈ lw_all := lw_g (lw_at lw_m1 150 rfl) rfl
theorem q301 : (Jvm.Cond.selects "java/lang/StringBuilder" ({ cls := "java/lang/AbstractStringBuilder", name := "isLatin1", desc := "()Z" } : Jvm.MethodName) ({ cls := "java/lang/AbstractStringBuilder", name := "isLatin1", desc := "()Z" } : Jvm.MethodName)) ∈ lw_all := lw_g (lw_at lw_m1 195 rfl) rfl
theorem q373 : (Jvm.Cond.instanceMethod ({ cls := "java/lang/StringBuilder", name := "append", desc := "(I)Ljava/lang/StringBuilder;" } : Jvm.MethodName)) ∈ lw_all := lw_g (lw_at lw_m2 27 rfl) rfl
theorem q374 : (Jvm.Cond.selects "java/lang/StringBuilder" ({ cls := "java/lang/StringBuilder", name := "append", desc := "(I)Ljava/lang/StringBuilder;" } : Jvm.MethodName) ({ cls := "java/lang/StringBuilder", name := "append", desc := "(I)Ljava/lang/StringBuilder;" } : Jvm.MethodName)) ∈ lw_all := lw_g (lw_at lw_m2 28 rfl) rfl
theorem q375 : (Jvm.Cond.code ({ cls := "java/lang/StringBuilder", name := "append", desc := "(I)Ljava/lang/StringBuilder;" } : Jvm.MethodName) prog_36_method_15_code (2 : Nat) (Option.some (Jvm.ClassFile.FieldType.object "java/lang/StringBuilder"))) ∈ lw_all := lw_g (lw_at lw_m2 29 rfl) rfl
theorem q376 : (Jvm.Cond.methodLink "java/lang/StringBuilder" (53 : Nat) ({ cls := "java/lang/AbstractStringBuilder", name := "append", desc := "(I)Ljava/lang/AbstractStringBuilder;" } : Jvm.MethodName)) ∈ lw_all := lw_g (lw_at lw_m2 30 rfl) rfl
theorem q398 : (Jvm.Cond.instanceMethod ({ cls := "java/lang/StringBuilder", name := "toString", desc := "()Ljava/lang/String;" } : Jvm.MethodName)) ∈ lw_all := lw_g (lw_at lw_m2 52 rfl) rfl
theorem q399 : (Jvm.Cond.selects "java/lang/StringBuilder" ({ cls := "java/lang/StringBuilder", name := "toString", desc := "()Ljava/lang/String;" } : Jvm.MethodName) ({ cls := "java/lang/StringBuilder", name := "toString", desc := "()Ljava/lang/String;" } : Jvm.MethodName)) ∈ lw_all := lw_g (lw_at lw_m2 53 rfl) rfl
theorem q400 : (Jvm.Cond.code ({ cls := "java/lang/StringBuilder", name := "toString", desc := "()Ljava/lang/String;" } : Jvm.MethodName) prog_36_method_42_code (1 : Nat) (Option.some (Jvm.ClassFile.FieldType.object "java/lang/String"))) ∈ lw_all := lw_g (lw_at lw_m2 54 rfl) rfl
theorem q401 : (Jvm.Cond.classLink "java/lang/StringBuilder" (18 : Nat) "java/lang/String") ∈ lw_all := lw_g (lw_at lw_m2 55 rfl) rfl
theorem q403 : (Jvm.Cond.methodLink "java/lang/StringBuilder" (137 : Nat) ({ cls := "java/lang/String", name := "<init>", desc := "(Ljava/lang/StringBuilder;)V" } : Jvm.MethodName)) ∈ lw_all := lw_g (lw_at lw_m2 57 rfl) rfl
theorem q413 : (Jvm.Cond.selects "java/lang/StringBuilder" ({ cls := "java/lang/AbstractStringBuilder", name := "getValue", desc := "()[B" } : Jvm.MethodName) ({ cls := "java/lang/AbstractStringBuilder", name := "getValue", desc := "()[B" } : Jvm.MethodName)) ∈ lw_all := lw_g (lw_at lw_m2 67 rfl) rfl
theorem q418 : (Jvm.Cond.selects "java/lang/StringBuilder" ({ cls := "java/lang/AbstractStringBuilder", name := "length", desc := "()I" } : Jvm.MethodName) ({ cls := "java/lang/StringBuilder", name := "length", desc := "()I" } : Jvm.MethodName)) ∈ lw_all := lw_g (lw_at lw_m2 72 rfl) rfl
theorem q419 : (Jvm.Cond.instanceMethod ({ cls := "java/lang/StringBuilder", name := "length", desc := "()I" } : Jvm.MethodName)) ∈ lw_all := lw_g (lw_at lw_m2 73 rfl) rfl
theorem q420 : (Jvm.Cond.code ({ cls := "java/lang/StringBuilder", name := "length", desc := "()I" } : Jvm.MethodName) prog_36_method_93_code (1 : Nat) (Option.some Jvm.ClassFile.FieldType.int)) ∈ lw_all := lw_g (lw_at lw_m2 74 rfl) rfl
theorem q421 : (Jvm.Cond.methodLink "java/lang/StringBuilder" (343 : Nat) ({ cls := "java/lang/AbstractStringBuilder", name := "length", desc := "()I" } : Jvm.MethodName)) ∈ lw_all := lw_g (lw_at lw_m2 75 rfl) rfl
theorem q638 : (Jvm.Cond.selects "java/lang/StringBuilder" ({ cls := "java/lang/Object", name := "getClass", desc := "()Ljava/lang/Class;" } : Jvm.MethodName) ({ cls := "java/lang/Object", name := "getClass", desc := "()Ljava/lang/Class;" } : Jvm.MethodName)) ∈ lw_all := lw_g (lw_at lw_m3 52 rfl) rfl
theorem q1174 : (Jvm.Cond.instanceMethod ({ cls := "java/lang/StringBuilder", name := "<init>", desc := "(I)V" } : Jvm.MethodName)) ∈ lw_all := lw_g (lw_at lw_m5 108 rfl) rfl
theorem q1175 : (Jvm.Cond.code ({ cls := "java/lang/StringBuilder", name := "<init>", desc := "(I)V" } : Jvm.MethodName) prog_36_method_2_code (2 : Nat) (Option.none : Option Jvm.ClassFile.FieldType)) ∈ lw_all := lw_g (lw_at lw_m5 109 rfl) rfl
theorem q1178 : (Jvm.Cond.instanceMethod ({ cls := "java/lang/StringBuilder", name := "append", desc := "(C)Ljava/lang/StringBuilder;" } : Jvm.MethodName)) ∈ lw_all := lw_g (lw_at lw_m5 112 rfl) rfl
theorem q1179 : (Jvm.Cond.selects "java/lang/StringBuilder" ({ cls := "java/lang/StringBuilder", name := "append", desc := "(C)Ljava/lang/StringBuilder;" } : Jvm.MethodName) ({ cls := "java/lang/StringBuilder", name := "append", desc := "(C)Ljava/lang/StringBuilder;" } : Jvm.MethodName)) ∈ lw_all := lw_g (lw_at lw_m5 113 rfl) rfl
theorem q1180 : (Jvm.Cond.code ({ cls := "java/lang/StringBuilder", name := "append", desc := "(C)Ljava/lang/StringBuilder;" } : Jvm.MethodName) prog_36_method_14_code (2 : Nat) (Option.some (Jvm.ClassFile.FieldType.object "java/lang/StringBuilder"))) ∈ lw_all := lw_g (lw_at lw_m5 114 rfl) rfl
theorem q1181 : (Jvm.Cond.methodLink "java/lang/StringBuilder" (50 : Nat) ({ cls := "java/lang/AbstractStringBuilder", name := "append", desc := "(C)Ljava/lang/AbstractStringBuilder;" } : Jvm.MethodName)) ∈ lw_all := lw_g (lw_at lw_m5 115 rfl) rfl
theorem q2386 : (Jvm.Cond.selects "java/lang/StringBuilder" ({ cls := "java/lang/StringBuilder", name := "length", desc := "()I" } : Jvm.MethodName) ({ cls := "java/lang/StringBuilder", name := "length", desc := "()I" } : Jvm.MethodName)) ∈ lw_all := lw_g (lw_at lw_m10 120 rfl) rfl
theorem q2398 : (Jvm.Cond.castable "java/lang/StringBuilder" "java/lang/Object") ∈ lw_tbl := lw_at lw_m10 132 rfl
theorem in_J8 : ∀ w ∈ wsJ80, w ∈ lw_all := lw_in wsJ80 [241, 243, 245, 247] (by decide +kernel) (by decide +kernel)
/-! java/lang/String -/
set_option maxRecDepth 100000
def RJ9 : String := "java/lang/String"
def TJ9 : u_T := fun k => match k with
  | 0 => ("java/lang/String", "value", "[B", true)
  | 1 => ("java/lang/String", "coder", "B", true)
  | 2 => ("java/lang/String", "hash", "I", false)
  | _ => ("java/lang/String", "hashIsZero", "Z", false)
def tyJ9 : Nat → FieldType := fun k => match k with
  | 0 => .array .byte
  | 1 => .byte
  | 2 => .int
  | _ => .boolean
abbrev wsJ90 : List Cond := u_ws RJ9 TJ9 4
theorem nmJ9 : ∀ a, a < 4 → ∀ b, b < 4 → a ≠ b → (TJ9 a).2.1 ≠ (TJ9 b).2.1 := by decide +kernel
theorem tyJ9_ok : ∀ k, k < 4 → parseFieldDescriptor (TJ9 k).2.2.1 = some (tyJ9 k) := by decide +kernel
abbrev cJ9_checkBoundsBeginEnd : ByteArray := prog_35_method_158_code
def yJ9_checkBoundsBeginEnd : MethodName := ⟨RJ9, "checkBoundsBeginEnd", "(III)V"⟩
def dkwJ9_checkBoundsBeginEnd_0 : List UInt8 := [26, 27, 28, 178, 4, 29, 184, 4, 38, 87, 177]
abbrev dktJ9_checkBoundsBeginEnd_0 : List UInt8 := dkwJ9_checkBoundsBeginEnd_0 ++ []
theorem dksJ9_checkBoundsBeginEnd_0 : cJ9_checkBoundsBeginEnd.data.toList.drop 0 = dktJ9_checkBoundsBeginEnd_0 := by decide +kernel
theorem dJ9_checkBoundsBeginEnd_0 : decode cJ9_checkBoundsBeginEnd 0 = .ok (.iload_n 0, 1) := dk_26 (dk_at dksJ9_checkBoundsBeginEnd_0 0 rfl rfl)
theorem dJ9_checkBoundsBeginEnd_1 : decode cJ9_checkBoundsBeginEnd 1 = .ok (.iload_n 1, 1) := dk_27 (dk_at dksJ9_checkBoundsBeginEnd_0 1 rfl rfl)
theorem dJ9_checkBoundsBeginEnd_2 : decode cJ9_checkBoundsBeginEnd 2 = .ok (.iload_n 2, 1) := dk_28 (dk_at dksJ9_checkBoundsBeginEnd_0 2 rfl rfl)
theorem dJ9_checkBoundsBeginEnd_3 : decode cJ9_checkBoundsBeginEnd 3 = .ok (.getstatic 1053, 3) := dk_178 4 29 (dk_at dksJ9_checkBoundsBeginEnd_0 3 rfl rfl)
theorem dJ9_checkBoundsBeginEnd_6 : decode cJ9_checkBoundsBeginEnd 6 = .ok (.invokestatic 1062, 3) := dk_184 4 38 (dk_at dksJ9_checkBoundsBeginEnd_0 6 rfl rfl)
theorem dJ9_checkBoundsBeginEnd_9 : decode cJ9_checkBoundsBeginEnd 9 = .ok (.pop, 1) := dk_87 (dk_at dksJ9_checkBoundsBeginEnd_0 9 rfl rfl)
theorem dJ9_checkBoundsBeginEnd_10 : decode cJ9_checkBoundsBeginEnd 10 = .ok (.return_, 1) := dk_177 (dk_at dksJ9_checkBoundsBeginEnd_0 10 rfl rfl)
abbrev cJ9_length : ByteArray := prog_35_method_54_code
def yJ9_length : MethodName := ⟨RJ9, "length", "()I"⟩
def dkwJ9_length_0 : List UInt8 := [42, 180, 0, 9, 190, 42, 182, 1, 79, 122, 172]
abbrev dktJ9_length_0 : List UInt8 := dkwJ9_length_0 ++ []
theorem dksJ9_length_0 : cJ9_length.data.toList.drop 0 = dktJ9_length_0 := by decide +kernel
theorem dJ9_length_0 : decode cJ9_length 0 = .ok (.aload_n 0, 1) := dk_42 (dk_at dksJ9_length_0 0 rfl rfl)
theorem dJ9_length_1 : decode cJ9_length 1 = .ok (.getfield 9, 3) := dk_180 0 9 (dk_at dksJ9_length_0 1 rfl rfl)
theorem dJ9_length_4 : decode cJ9_length 4 = .ok (.arraylength, 1) := dk_190 (dk_at dksJ9_length_0 4 rfl rfl)
theorem dJ9_length_5 : decode cJ9_length 5 = .ok (.aload_n 0, 1) := dk_42 (dk_at dksJ9_length_0 5 rfl rfl)
theorem dJ9_length_6 : decode cJ9_length 6 = .ok (.invokevirtual 335, 3) := dk_182 1 79 (dk_at dksJ9_length_0 6 rfl rfl)
theorem dJ9_length_9 : decode cJ9_length 9 = .ok (.ishr, 1) := dk_122 (dk_at dksJ9_length_0 9 rfl rfl)
theorem dJ9_length_10 : decode cJ9_length 10 = .ok (.ireturn, 1) := dk_172 (dk_at dksJ9_length_0 10 rfl rfl)
abbrev cJ9_coder : ByteArray := prog_35_method_152_code
def yJ9_coder : MethodName := ⟨RJ9, "coder", "()B"⟩
def dkwJ9_coder_0 : List UInt8 := [178, 0, 38, 153, 0, 10, 42, 180, 0, 15, 167, 0, 4, 4, 172]
abbrev dktJ9_coder_0 : List UInt8 := dkwJ9_coder_0 ++ []
theorem dksJ9_coder_0 : cJ9_coder.data.toList.drop 0 = dktJ9_coder_0 := by decide +kernel
theorem dJ9_coder_0 : decode cJ9_coder 0 = .ok (.getstatic 38, 3) := dk_178 0 38 (dk_at dksJ9_coder_0 0 rfl rfl)
theorem dJ9_coder_3 : decode cJ9_coder 3 = .ok (.ifCond .eq 10, 3) := dk_153 0 10 (dk_at dksJ9_coder_0 3 rfl rfl)
theorem dJ9_coder_6 : decode cJ9_coder 6 = .ok (.aload_n 0, 1) := dk_42 (dk_at dksJ9_coder_0 6 rfl rfl)
theorem dJ9_coder_7 : decode cJ9_coder 7 = .ok (.getfield 15, 3) := dk_180 0 15 (dk_at dksJ9_coder_0 7 rfl rfl)
theorem dJ9_coder_10 : decode cJ9_coder 10 = .ok (.goto 4, 3) := dk_167 0 4 (dk_at dksJ9_coder_0 10 rfl rfl)
theorem dJ9_coder_13 : decode cJ9_coder 13 = .ok (.iconst 1, 1) := dk_4 (dk_at dksJ9_coder_0 13 rfl rfl)
theorem dJ9_coder_14 : decode cJ9_coder 14 = .ok (.ireturn, 1) := dk_172 (dk_at dksJ9_coder_0 14 rfl rfl)
abbrev cJ9_checkBoundsOffCount : ByteArray := prog_35_method_157_code
def yJ9_checkBoundsOffCount : MethodName := ⟨RJ9, "checkBoundsOffCount", "(III)I"⟩
def dkwJ9_checkBoundsOffCount_0 : List UInt8 := [26, 27, 28, 178, 4, 29, 184, 4, 41, 172]
abbrev dktJ9_checkBoundsOffCount_0 : List UInt8 := dkwJ9_checkBoundsOffCount_0 ++ []
theorem dksJ9_checkBoundsOffCount_0 : cJ9_checkBoundsOffCount.data.toList.drop 0 = dktJ9_checkBoundsOffCount_0 := by decide +kernel
theorem dJ9_checkBoundsOffCount_0 : decode cJ9_checkBoundsOffCount 0 = .ok (.iload_n 0, 1) := dk_26 (dk_at dksJ9_checkBoundsOffCount_0 0 rfl rfl)
theorem dJ9_checkBoundsOffCount_1 : decode cJ9_checkBoundsOffCount 1 = .ok (.iload_n 1, 1) := dk_27 (dk_at dksJ9_checkBoundsOffCount_0 1 rfl rfl)
theorem dJ9_checkBoundsOffCount_2 : decode cJ9_checkBoundsOffCount 2 = .ok (.iload_n 2, 1) := dk_28 (dk_at dksJ9_checkBoundsOffCount_0 2 rfl rfl)
theorem dJ9_checkBoundsOffCount_3 : decode cJ9_checkBoundsOffCount 3 = .ok (.getstatic 1053, 3) := dk_178 4 29 (dk_at dksJ9_checkBoundsOffCount_0 3 rfl rfl)
theorem dJ9_checkBoundsOffCount_6 : decode cJ9_checkBoundsOffCount 6 = .ok (.invokestatic 1065, 3) := dk_184 4 41 (dk_at dksJ9_checkBoundsOffCount_0 6 rfl rfl)
theorem dJ9_checkBoundsOffCount_9 : decode cJ9_checkBoundsOffCount 9 = .ok (.ireturn, 1) := dk_172 (dk_at dksJ9_checkBoundsOffCount_0 9 rfl rfl)
abbrev cJ9_getBytes : ByteArray := prog_35_method_147_code
def yJ9_getBytes : MethodName := ⟨RJ9, "getBytes", "([BIB)V"⟩
def dkwJ9_getBytes_1 : List UInt8 := [184, 0, 212, 167, 0, 18, 42, 180, 0, 9, 3, 43, 28, 42, 180, 0, 9, 190, 184, 0, 106, 177]
abbrev dktJ9_getBytes_1 : List UInt8 := dkwJ9_getBytes_1 ++ []
def dkwJ9_getBytes_0 : List UInt8 := [42, 182, 1, 79, 29, 160, 0, 23, 42, 180, 0, 9, 3, 43, 28, 29, 120, 42, 180, 0, 9, 190]
abbrev dktJ9_getBytes_0 : List UInt8 := dkwJ9_getBytes_0 ++ dktJ9_getBytes_1
theorem dksJ9_getBytes_0 : cJ9_getBytes.data.toList.drop 0 = dktJ9_getBytes_0 := by decide +kernel
theorem dksJ9_getBytes_1 : cJ9_getBytes.data.toList.drop 22 = dktJ9_getBytes_1 := dk_seg dksJ9_getBytes_0 22 rfl rfl
theorem dJ9_getBytes_0 : decode cJ9_getBytes 0 = .ok (.aload_n 0, 1) := dk_42 (dk_at dksJ9_getBytes_0 0 rfl rfl)
theorem dJ9_getBytes_1 : decode cJ9_getBytes 1 = .ok (.invokevirtual 335, 3) := dk_182 1 79 (dk_at dksJ9_getBytes_0 1 rfl rfl)
theorem dJ9_getBytes_4 : decode cJ9_getBytes 4 = .ok (.iload_n 3, 1) := dk_29 (dk_at dksJ9_getBytes_0 4 rfl rfl)
theorem dJ9_getBytes_5 : decode cJ9_getBytes 5 = .ok (.if_icmp .ne 23, 3) := dk_160 0 23 (dk_at dksJ9_getBytes_0 5 rfl rfl)
theorem dJ9_getBytes_8 : decode cJ9_getBytes 8 = .ok (.aload_n 0, 1) := dk_42 (dk_at dksJ9_getBytes_0 8 rfl rfl)
theorem dJ9_getBytes_9 : decode cJ9_getBytes 9 = .ok (.getfield 9, 3) := dk_180 0 9 (dk_at dksJ9_getBytes_0 9 rfl rfl)
theorem dJ9_getBytes_12 : decode cJ9_getBytes 12 = .ok (.iconst 0, 1) := dk_3 (dk_at dksJ9_getBytes_0 12 rfl rfl)
theorem dJ9_getBytes_13 : decode cJ9_getBytes 13 = .ok (.aload_n 1, 1) := dk_43 (dk_at dksJ9_getBytes_0 13 rfl rfl)
theorem dJ9_getBytes_14 : decode cJ9_getBytes 14 = .ok (.iload_n 2, 1) := dk_28 (dk_at dksJ9_getBytes_0 14 rfl rfl)
theorem dJ9_getBytes_15 : decode cJ9_getBytes 15 = .ok (.iload_n 3, 1) := dk_29 (dk_at dksJ9_getBytes_0 15 rfl rfl)
theorem dJ9_getBytes_16 : decode cJ9_getBytes 16 = .ok (.ishl, 1) := dk_120 (dk_at dksJ9_getBytes_0 16 rfl rfl)
theorem dJ9_getBytes_17 : decode cJ9_getBytes 17 = .ok (.aload_n 0, 1) := dk_42 (dk_at dksJ9_getBytes_0 17 rfl rfl)
theorem dJ9_getBytes_18 : decode cJ9_getBytes 18 = .ok (.getfield 9, 3) := dk_180 0 9 (dk_at dksJ9_getBytes_0 18 rfl rfl)
theorem dJ9_getBytes_21 : decode cJ9_getBytes 21 = .ok (.arraylength, 1) := dk_190 (dk_at dksJ9_getBytes_0 21 rfl rfl)
theorem dJ9_getBytes_22 : decode cJ9_getBytes 22 = .ok (.invokestatic 212, 3) := dk_184 0 212 (dk_at dksJ9_getBytes_1 0 rfl rfl)
theorem dJ9_getBytes_25 : decode cJ9_getBytes 25 = .ok (.goto 18, 3) := dk_167 0 18 (dk_at dksJ9_getBytes_1 3 rfl rfl)
theorem dJ9_getBytes_28 : decode cJ9_getBytes 28 = .ok (.aload_n 0, 1) := dk_42 (dk_at dksJ9_getBytes_1 6 rfl rfl)
theorem dJ9_getBytes_29 : decode cJ9_getBytes 29 = .ok (.getfield 9, 3) := dk_180 0 9 (dk_at dksJ9_getBytes_1 7 rfl rfl)
theorem dJ9_getBytes_32 : decode cJ9_getBytes 32 = .ok (.iconst 0, 1) := dk_3 (dk_at dksJ9_getBytes_1 10 rfl rfl)
theorem dJ9_getBytes_33 : decode cJ9_getBytes 33 = .ok (.aload_n 1, 1) := dk_43 (dk_at dksJ9_getBytes_1 11 rfl rfl)
theorem dJ9_getBytes_34 : decode cJ9_getBytes 34 = .ok (.iload_n 2, 1) := dk_28 (dk_at dksJ9_getBytes_1 12 rfl rfl)
theorem dJ9_getBytes_35 : decode cJ9_getBytes 35 = .ok (.aload_n 0, 1) := dk_42 (dk_at dksJ9_getBytes_1 13 rfl rfl)
theorem dJ9_getBytes_36 : decode cJ9_getBytes 36 = .ok (.getfield 9, 3) := dk_180 0 9 (dk_at dksJ9_getBytes_1 14 rfl rfl)
theorem dJ9_getBytes_39 : decode cJ9_getBytes 39 = .ok (.arraylength, 1) := dk_190 (dk_at dksJ9_getBytes_1 17 rfl rfl)
theorem dJ9_getBytes_40 : decode cJ9_getBytes 40 = .ok (.invokestatic 106, 3) := dk_184 0 106 (dk_at dksJ9_getBytes_1 18 rfl rfl)
theorem dJ9_getBytes_43 : decode cJ9_getBytes 43 = .ok (.return_, 1) := dk_177 (dk_at dksJ9_getBytes_1 21 rfl rfl)
abbrev cJ9_init : ByteArray := prog_35_method_53_code
def yJ9_init : MethodName := ⟨RJ9, "<init>", "(Ljava/lang/StringBuilder;)V"⟩
def dkwJ9_init_0 : List UInt8 := [42, 43, 1, 183, 1, 233, 177]
abbrev dktJ9_init_0 : List UInt8 := dkwJ9_init_0 ++ []
theorem dksJ9_init_0 : cJ9_init.data.toList.drop 0 = dktJ9_init_0 := by decide +kernel
theorem dJ9_init_0 : decode cJ9_init 0 = .ok (.aload_n 0, 1) := dk_42 (dk_at dksJ9_init_0 0 rfl rfl)
theorem dJ9_init_1 : decode cJ9_init 1 = .ok (.aload_n 1, 1) := dk_43 (dk_at dksJ9_init_0 1 rfl rfl)
theorem dJ9_init_2 : decode cJ9_init 2 = .ok (.aconst_null, 1) := dk_1 (dk_at dksJ9_init_0 2 rfl rfl)
theorem dJ9_init_3 : decode cJ9_init 3 = .ok (.invokespecial 489, 3) := dk_183 1 233 (dk_at dksJ9_init_0 3 rfl rfl)
theorem dJ9_init_6 : decode cJ9_init 6 = .ok (.return_, 1) := dk_177 (dk_at dksJ9_init_0 6 rfl rfl)
abbrev cJ9_init_2 : ByteArray := prog_35_method_150_code
def yJ9_init_2 : MethodName := ⟨RJ9, "<init>", "(Ljava/lang/AbstractStringBuilder;Ljava/lang/Void;)V"⟩
def dkwJ9_init_2_4 : List UInt8 := [181, 0, 9, 177]
abbrev dktJ9_init_2_4 : List UInt8 := dkwJ9_init_2_4 ++ []
def dkwJ9_init_2_3 : List UInt8 := [184, 0, 47, 181, 0, 15, 177, 42, 4, 181, 0, 15, 42, 45, 3, 21, 4, 4, 120, 184, 0, 54]
abbrev dktJ9_init_2_3 : List UInt8 := dkwJ9_init_2_3 ++ dktJ9_init_2_4
def dkwJ9_init_2_2 : List UInt8 := [180, 4, 24, 153, 0, 28, 42, 45, 3, 21, 4, 184, 4, 27, 181, 0, 9, 42, 42, 180, 0, 9, 21, 4]
abbrev dktJ9_init_2_2 : List UInt8 := dkwJ9_init_2_2 ++ dktJ9_init_2_3
def dkwJ9_init_2_1 : List UInt8 := [181, 0, 15, 42, 45, 3, 21, 4, 184, 0, 54, 181, 0, 9, 167, 0, 59, 178, 0, 38, 153, 0, 35, 43]
abbrev dktJ9_init_2_1 : List UInt8 := dkwJ9_init_2_1 ++ dktJ9_init_2_2
def dkwJ9_init_2_0 : List UInt8 := [42, 183, 0, 1, 43, 182, 2, 40, 78, 43, 182, 2, 37, 54, 4, 43, 182, 4, 23, 153, 0, 22, 42, 3]
abbrev dktJ9_init_2_0 : List UInt8 := dkwJ9_init_2_0 ++ dktJ9_init_2_1
theorem dksJ9_init_2_0 : cJ9_init_2.data.toList.drop 0 = dktJ9_init_2_0 := by decide +kernel
theorem dksJ9_init_2_1 : cJ9_init_2.data.toList.drop 24 = dktJ9_init_2_1 := dk_seg dksJ9_init_2_0 24 rfl rfl
theorem dksJ9_init_2_2 : cJ9_init_2.data.toList.drop 48 = dktJ9_init_2_2 := dk_seg dksJ9_init_2_1 24 rfl rfl
theorem dksJ9_init_2_3 : cJ9_init_2.data.toList.drop 72 = dktJ9_init_2_3 := dk_seg dksJ9_init_2_2 24 rfl rfl
theorem dksJ9_init_2_4 : cJ9_init_2.data.toList.drop 94 = dktJ9_init_2_4 := dk_seg dksJ9_init_2_3 22 rfl rfl
theorem dJ9_init_2_0 : decode cJ9_init_2 0 = .ok (.aload_n 0, 1) := dk_42 (dk_at dksJ9_init_2_0 0 rfl rfl)
theorem dJ9_init_2_1 : decode cJ9_init_2 1 = .ok (.invokespecial 1, 3) := dk_183 0 1 (dk_at dksJ9_init_2_0 1 rfl rfl)
theorem dJ9_init_2_4 : decode cJ9_init_2 4 = .ok (.aload_n 1, 1) := dk_43 (dk_at dksJ9_init_2_0 4 rfl rfl)
theorem dJ9_init_2_5 : decode cJ9_init_2 5 = .ok (.invokevirtual 552, 3) := dk_182 2 40 (dk_at dksJ9_init_2_0 5 rfl rfl)
theorem dJ9_init_2_8 : decode cJ9_init_2 8 = .ok (.astore_n 3, 1) := dk_78 (dk_at dksJ9_init_2_0 8 rfl rfl)
theorem dJ9_init_2_9 : decode cJ9_init_2 9 = .ok (.aload_n 1, 1) := dk_43 (dk_at dksJ9_init_2_0 9 rfl rfl)
theorem dJ9_init_2_10 : decode cJ9_init_2 10 = .ok (.invokevirtual 549, 3) := dk_182 2 37 (dk_at dksJ9_init_2_0 10 rfl rfl)
theorem dJ9_init_2_13 : decode cJ9_init_2 13 = .ok (.istore 4, 2) := dk_54 4 (dk_at dksJ9_init_2_0 13 rfl rfl)
theorem dJ9_init_2_15 : decode cJ9_init_2 15 = .ok (.aload_n 1, 1) := dk_43 (dk_at dksJ9_init_2_0 15 rfl rfl)
theorem dJ9_init_2_16 : decode cJ9_init_2 16 = .ok (.invokevirtual 1047, 3) := dk_182 4 23 (dk_at dksJ9_init_2_0 16 rfl rfl)
theorem dJ9_init_2_19 : decode cJ9_init_2 19 = .ok (.ifCond .eq 22, 3) := dk_153 0 22 (dk_at dksJ9_init_2_0 19 rfl rfl)
theorem dJ9_init_2_22 : decode cJ9_init_2 22 = .ok (.aload_n 0, 1) := dk_42 (dk_at dksJ9_init_2_0 22 rfl rfl)
theorem dJ9_init_2_23 : decode cJ9_init_2 23 = .ok (.iconst 0, 1) := dk_3 (dk_at dksJ9_init_2_0 23 rfl rfl)
theorem dJ9_init_2_24 : decode cJ9_init_2 24 = .ok (.putfield 15, 3) := dk_181 0 15 (dk_at dksJ9_init_2_1 0 rfl rfl)
theorem dJ9_init_2_27 : decode cJ9_init_2 27 = .ok (.aload_n 0, 1) := dk_42 (dk_at dksJ9_init_2_1 3 rfl rfl)
theorem dJ9_init_2_28 : decode cJ9_init_2 28 = .ok (.aload_n 3, 1) := dk_45 (dk_at dksJ9_init_2_1 4 rfl rfl)
theorem dJ9_init_2_29 : decode cJ9_init_2 29 = .ok (.iconst 0, 1) := dk_3 (dk_at dksJ9_init_2_1 5 rfl rfl)
theorem dJ9_init_2_30 : decode cJ9_init_2 30 = .ok (.iload 4, 2) := dk_21 4 (dk_at dksJ9_init_2_1 6 rfl rfl)
theorem dJ9_init_2_32 : decode cJ9_init_2 32 = .ok (.invokestatic 54, 3) := dk_184 0 54 (dk_at dksJ9_init_2_1 8 rfl rfl)
theorem dJ9_init_2_35 : decode cJ9_init_2 35 = .ok (.putfield 9, 3) := dk_181 0 9 (dk_at dksJ9_init_2_1 11 rfl rfl)
theorem dJ9_init_2_38 : decode cJ9_init_2 38 = .ok (.goto 59, 3) := dk_167 0 59 (dk_at dksJ9_init_2_1 14 rfl rfl)
theorem dJ9_init_2_41 : decode cJ9_init_2 41 = .ok (.getstatic 38, 3) := dk_178 0 38 (dk_at dksJ9_init_2_1 17 rfl rfl)
theorem dJ9_init_2_44 : decode cJ9_init_2 44 = .ok (.ifCond .eq 35, 3) := dk_153 0 35 (dk_at dksJ9_init_2_1 20 rfl rfl)
theorem dJ9_init_2_47 : decode cJ9_init_2 47 = .ok (.aload_n 1, 1) := dk_43 (dk_at dksJ9_init_2_1 23 rfl rfl)
theorem dJ9_init_2_48 : decode cJ9_init_2 48 = .ok (.getfield 1048, 3) := dk_180 4 24 (dk_at dksJ9_init_2_2 0 rfl rfl)
theorem dJ9_init_2_51 : decode cJ9_init_2 51 = .ok (.ifCond .eq 28, 3) := dk_153 0 28 (dk_at dksJ9_init_2_2 3 rfl rfl)
theorem dJ9_init_2_54 : decode cJ9_init_2 54 = .ok (.aload_n 0, 1) := dk_42 (dk_at dksJ9_init_2_2 6 rfl rfl)
theorem dJ9_init_2_55 : decode cJ9_init_2 55 = .ok (.aload_n 3, 1) := dk_45 (dk_at dksJ9_init_2_2 7 rfl rfl)
theorem dJ9_init_2_56 : decode cJ9_init_2 56 = .ok (.iconst 0, 1) := dk_3 (dk_at dksJ9_init_2_2 8 rfl rfl)
theorem dJ9_init_2_57 : decode cJ9_init_2 57 = .ok (.iload 4, 2) := dk_21 4 (dk_at dksJ9_init_2_2 9 rfl rfl)
theorem dJ9_init_2_59 : decode cJ9_init_2 59 = .ok (.invokestatic 1051, 3) := dk_184 4 27 (dk_at dksJ9_init_2_2 11 rfl rfl)
theorem dJ9_init_2_62 : decode cJ9_init_2 62 = .ok (.putfield 9, 3) := dk_181 0 9 (dk_at dksJ9_init_2_2 14 rfl rfl)
theorem dJ9_init_2_65 : decode cJ9_init_2 65 = .ok (.aload_n 0, 1) := dk_42 (dk_at dksJ9_init_2_2 17 rfl rfl)
theorem dJ9_init_2_66 : decode cJ9_init_2 66 = .ok (.aload_n 0, 1) := dk_42 (dk_at dksJ9_init_2_2 18 rfl rfl)
theorem dJ9_init_2_67 : decode cJ9_init_2 67 = .ok (.getfield 9, 3) := dk_180 0 9 (dk_at dksJ9_init_2_2 19 rfl rfl)
theorem dJ9_init_2_70 : decode cJ9_init_2 70 = .ok (.iload 4, 2) := dk_21 4 (dk_at dksJ9_init_2_2 22 rfl rfl)
theorem dJ9_init_2_72 : decode cJ9_init_2 72 = .ok (.invokestatic 47, 3) := dk_184 0 47 (dk_at dksJ9_init_2_3 0 rfl rfl)
theorem dJ9_init_2_75 : decode cJ9_init_2 75 = .ok (.putfield 15, 3) := dk_181 0 15 (dk_at dksJ9_init_2_3 3 rfl rfl)
theorem dJ9_init_2_78 : decode cJ9_init_2 78 = .ok (.return_, 1) := dk_177 (dk_at dksJ9_init_2_3 6 rfl rfl)
theorem dJ9_init_2_79 : decode cJ9_init_2 79 = .ok (.aload_n 0, 1) := dk_42 (dk_at dksJ9_init_2_3 7 rfl rfl)
theorem dJ9_init_2_80 : decode cJ9_init_2 80 = .ok (.iconst 1, 1) := dk_4 (dk_at dksJ9_init_2_3 8 rfl rfl)
theorem dJ9_init_2_81 : decode cJ9_init_2 81 = .ok (.putfield 15, 3) := dk_181 0 15 (dk_at dksJ9_init_2_3 9 rfl rfl)
theorem dJ9_init_2_84 : decode cJ9_init_2 84 = .ok (.aload_n 0, 1) := dk_42 (dk_at dksJ9_init_2_3 12 rfl rfl)
theorem dJ9_init_2_85 : decode cJ9_init_2 85 = .ok (.aload_n 3, 1) := dk_45 (dk_at dksJ9_init_2_3 13 rfl rfl)
theorem dJ9_init_2_86 : decode cJ9_init_2 86 = .ok (.iconst 0, 1) := dk_3 (dk_at dksJ9_init_2_3 14 rfl rfl)
theorem dJ9_init_2_87 : decode cJ9_init_2 87 = .ok (.iload 4, 2) := dk_21 4 (dk_at dksJ9_init_2_3 15 rfl rfl)
theorem dJ9_init_2_89 : decode cJ9_init_2 89 = .ok (.iconst 1, 1) := dk_4 (dk_at dksJ9_init_2_3 17 rfl rfl)
theorem dJ9_init_2_90 : decode cJ9_init_2 90 = .ok (.ishl, 1) := dk_120 (dk_at dksJ9_init_2_3 18 rfl rfl)
theorem dJ9_init_2_91 : decode cJ9_init_2 91 = .ok (.invokestatic 54, 3) := dk_184 0 54 (dk_at dksJ9_init_2_3 19 rfl rfl)
theorem dJ9_init_2_94 : decode cJ9_init_2 94 = .ok (.putfield 9, 3) := dk_181 0 9 (dk_at dksJ9_init_2_4 0 rfl rfl)
theorem dJ9_init_2_97 : decode cJ9_init_2 97 = .ok (.return_, 1) := dk_177 (dk_at dksJ9_init_2_4 3 rfl rfl)
abbrev cJ9_checkIndex : ByteArray := prog_35_method_155_code
def yJ9_checkIndex : MethodName := ⟨RJ9, "checkIndex", "(II)V"⟩
def dkwJ9_checkIndex_0 : List UInt8 := [26, 27, 178, 4, 29, 184, 4, 35, 87, 177]
abbrev dktJ9_checkIndex_0 : List UInt8 := dkwJ9_checkIndex_0 ++ []
theorem dksJ9_checkIndex_0 : cJ9_checkIndex.data.toList.drop 0 = dktJ9_checkIndex_0 := by decide +kernel
theorem dJ9_checkIndex_0 : decode cJ9_checkIndex 0 = .ok (.iload_n 0, 1) := dk_26 (dk_at dksJ9_checkIndex_0 0 rfl rfl)
theorem dJ9_checkIndex_1 : decode cJ9_checkIndex 1 = .ok (.iload_n 1, 1) := dk_27 (dk_at dksJ9_checkIndex_0 1 rfl rfl)
theorem dJ9_checkIndex_2 : decode cJ9_checkIndex 2 = .ok (.getstatic 1053, 3) := dk_178 4 29 (dk_at dksJ9_checkIndex_0 2 rfl rfl)
theorem dJ9_checkIndex_5 : decode cJ9_checkIndex 5 = .ok (.invokestatic 1059, 3) := dk_184 4 35 (dk_at dksJ9_checkIndex_0 5 rfl rfl)
theorem dJ9_checkIndex_8 : decode cJ9_checkIndex 8 = .ok (.pop, 1) := dk_87 (dk_at dksJ9_checkIndex_0 8 rfl rfl)
theorem dJ9_checkIndex_9 : decode cJ9_checkIndex 9 = .ok (.return_, 1) := dk_177 (dk_at dksJ9_checkIndex_0 9 rfl rfl)
abbrev cJ9_valueOf : ByteArray := prog_35_method_139_code
def yJ9_valueOf : MethodName := ⟨RJ9, "valueOf", "(C)Ljava/lang/String;"⟩
def dkwJ9_valueOf_1 : List UInt8 := [183, 0, 209, 176, 187, 0, 10, 89, 26, 184, 3, 253, 4, 183, 0, 209, 176]
abbrev dktJ9_valueOf_1 : List UInt8 := dkwJ9_valueOf_1 ++ []
def dkwJ9_valueOf_0 : List UInt8 := [178, 0, 38, 153, 0, 23, 26, 184, 3, 247, 153, 0, 16, 187, 0, 10, 89, 26, 184, 3, 250, 3]
abbrev dktJ9_valueOf_0 : List UInt8 := dkwJ9_valueOf_0 ++ dktJ9_valueOf_1
theorem dksJ9_valueOf_0 : cJ9_valueOf.data.toList.drop 0 = dktJ9_valueOf_0 := by decide +kernel
theorem dksJ9_valueOf_1 : cJ9_valueOf.data.toList.drop 22 = dktJ9_valueOf_1 := dk_seg dksJ9_valueOf_0 22 rfl rfl
theorem dJ9_valueOf_0 : decode cJ9_valueOf 0 = .ok (.getstatic 38, 3) := dk_178 0 38 (dk_at dksJ9_valueOf_0 0 rfl rfl)
theorem dJ9_valueOf_3 : decode cJ9_valueOf 3 = .ok (.ifCond .eq 23, 3) := dk_153 0 23 (dk_at dksJ9_valueOf_0 3 rfl rfl)
theorem dJ9_valueOf_6 : decode cJ9_valueOf 6 = .ok (.iload_n 0, 1) := dk_26 (dk_at dksJ9_valueOf_0 6 rfl rfl)
theorem dJ9_valueOf_7 : decode cJ9_valueOf 7 = .ok (.invokestatic 1015, 3) := dk_184 3 247 (dk_at dksJ9_valueOf_0 7 rfl rfl)
theorem dJ9_valueOf_10 : decode cJ9_valueOf 10 = .ok (.ifCond .eq 16, 3) := dk_153 0 16 (dk_at dksJ9_valueOf_0 10 rfl rfl)
theorem dJ9_valueOf_13 : decode cJ9_valueOf 13 = .ok (.new 10, 3) := dk_187 0 10 (dk_at dksJ9_valueOf_0 13 rfl rfl)
theorem dJ9_valueOf_16 : decode cJ9_valueOf 16 = .ok (.dup, 1) := dk_89 (dk_at dksJ9_valueOf_0 16 rfl rfl)
theorem dJ9_valueOf_17 : decode cJ9_valueOf 17 = .ok (.iload_n 0, 1) := dk_26 (dk_at dksJ9_valueOf_0 17 rfl rfl)
theorem dJ9_valueOf_18 : decode cJ9_valueOf 18 = .ok (.invokestatic 1018, 3) := dk_184 3 250 (dk_at dksJ9_valueOf_0 18 rfl rfl)
theorem dJ9_valueOf_21 : decode cJ9_valueOf 21 = .ok (.iconst 0, 1) := dk_3 (dk_at dksJ9_valueOf_0 21 rfl rfl)
theorem dJ9_valueOf_22 : decode cJ9_valueOf 22 = .ok (.invokespecial 209, 3) := dk_183 0 209 (dk_at dksJ9_valueOf_1 0 rfl rfl)
theorem dJ9_valueOf_25 : decode cJ9_valueOf 25 = .ok (.areturn, 1) := dk_176 (dk_at dksJ9_valueOf_1 3 rfl rfl)
theorem dJ9_valueOf_26 : decode cJ9_valueOf 26 = .ok (.new 10, 3) := dk_187 0 10 (dk_at dksJ9_valueOf_1 4 rfl rfl)
theorem dJ9_valueOf_29 : decode cJ9_valueOf 29 = .ok (.dup, 1) := dk_89 (dk_at dksJ9_valueOf_1 7 rfl rfl)
theorem dJ9_valueOf_30 : decode cJ9_valueOf 30 = .ok (.iload_n 0, 1) := dk_26 (dk_at dksJ9_valueOf_1 8 rfl rfl)
theorem dJ9_valueOf_31 : decode cJ9_valueOf 31 = .ok (.invokestatic 1021, 3) := dk_184 3 253 (dk_at dksJ9_valueOf_1 9 rfl rfl)
theorem dJ9_valueOf_34 : decode cJ9_valueOf 34 = .ok (.iconst 1, 1) := dk_4 (dk_at dksJ9_valueOf_1 12 rfl rfl)
theorem dJ9_valueOf_35 : decode cJ9_valueOf 35 = .ok (.invokespecial 209, 3) := dk_183 0 209 (dk_at dksJ9_valueOf_1 13 rfl rfl)
theorem dJ9_valueOf_38 : decode cJ9_valueOf 38 = .ok (.areturn, 1) := dk_176 (dk_at dksJ9_valueOf_1 16 rfl rfl)
abbrev cJ9_init_3 : ByteArray := prog_35_method_151_code
def yJ9_init_3 : MethodName := ⟨RJ9, "<init>", "([BB)V"⟩
def dkwJ9_init_3_0 : List UInt8 := [42, 183, 0, 1, 42, 43, 181, 0, 9, 42, 28, 181, 0, 15, 177]
abbrev dktJ9_init_3_0 : List UInt8 := dkwJ9_init_3_0 ++ []
theorem dksJ9_init_3_0 : cJ9_init_3.data.toList.drop 0 = dktJ9_init_3_0 := by decide +kernel
theorem dJ9_init_3_0 : decode cJ9_init_3 0 = .ok (.aload_n 0, 1) := dk_42 (dk_at dksJ9_init_3_0 0 rfl rfl)
theorem dJ9_init_3_1 : decode cJ9_init_3 1 = .ok (.invokespecial 1, 3) := dk_183 0 1 (dk_at dksJ9_init_3_0 1 rfl rfl)
theorem dJ9_init_3_4 : decode cJ9_init_3 4 = .ok (.aload_n 0, 1) := dk_42 (dk_at dksJ9_init_3_0 4 rfl rfl)
theorem dJ9_init_3_5 : decode cJ9_init_3 5 = .ok (.aload_n 1, 1) := dk_43 (dk_at dksJ9_init_3_0 5 rfl rfl)
theorem dJ9_init_3_6 : decode cJ9_init_3 6 = .ok (.putfield 9, 3) := dk_181 0 9 (dk_at dksJ9_init_3_0 6 rfl rfl)
theorem dJ9_init_3_9 : decode cJ9_init_3 9 = .ok (.aload_n 0, 1) := dk_42 (dk_at dksJ9_init_3_0 9 rfl rfl)
theorem dJ9_init_3_10 : decode cJ9_init_3 10 = .ok (.iload_n 2, 1) := dk_28 (dk_at dksJ9_init_3_0 10 rfl rfl)
theorem dJ9_init_3_11 : decode cJ9_init_3 11 = .ok (.putfield 15, 3) := dk_181 0 15 (dk_at dksJ9_init_3_0 11 rfl rfl)
theorem dJ9_init_3_14 : decode cJ9_init_3 14 = .ok (.return_, 1) := dk_177 (dk_at dksJ9_init_3_0 14 rfl rfl)
abbrev cJ9_equals : ByteArray := prog_35_method_66_code
def yJ9_equals : MethodName := ⟨RJ9, "equals", "(Ljava/lang/Object;)Z"⟩
def dkwJ9_equals_2 : List UInt8 := [184, 2, 29, 153, 0, 7, 4, 167, 0, 4, 3, 172]
abbrev dktJ9_equals_2 : List UInt8 := dkwJ9_equals_2 ++ []
def dkwJ9_equals_1 : List UInt8 := [153, 0, 14, 42, 180, 0, 15, 44, 180, 0, 15, 160, 0, 21, 42, 180, 0, 9, 44, 180, 0, 9]
abbrev dktJ9_equals_1 : List UInt8 := dkwJ9_equals_1 ++ dktJ9_equals_2
def dkwJ9_equals_0 : List UInt8 := [42, 43, 166, 0, 5, 4, 172, 43, 193, 0, 10, 153, 0, 43, 43, 192, 0, 10, 77, 178, 0, 38]
abbrev dktJ9_equals_0 : List UInt8 := dkwJ9_equals_0 ++ dktJ9_equals_1
theorem dksJ9_equals_0 : cJ9_equals.data.toList.drop 0 = dktJ9_equals_0 := by decide +kernel
theorem dksJ9_equals_1 : cJ9_equals.data.toList.drop 22 = dktJ9_equals_1 := dk_seg dksJ9_equals_0 22 rfl rfl
theorem dksJ9_equals_2 : cJ9_equals.data.toList.drop 44 = dktJ9_equals_2 := dk_seg dksJ9_equals_1 22 rfl rfl
theorem dJ9_equals_0 : decode cJ9_equals 0 = .ok (.aload_n 0, 1) := dk_42 (dk_at dksJ9_equals_0 0 rfl rfl)
theorem dJ9_equals_1 : decode cJ9_equals 1 = .ok (.aload_n 1, 1) := dk_43 (dk_at dksJ9_equals_0 1 rfl rfl)
theorem dJ9_equals_2 : decode cJ9_equals 2 = .ok (.if_acmp .ne 5, 3) := dk_166 0 5 (dk_at dksJ9_equals_0 2 rfl rfl)
theorem dJ9_equals_5 : decode cJ9_equals 5 = .ok (.iconst 1, 1) := dk_4 (dk_at dksJ9_equals_0 5 rfl rfl)
theorem dJ9_equals_6 : decode cJ9_equals 6 = .ok (.ireturn, 1) := dk_172 (dk_at dksJ9_equals_0 6 rfl rfl)
theorem dJ9_equals_7 : decode cJ9_equals 7 = .ok (.aload_n 1, 1) := dk_43 (dk_at dksJ9_equals_0 7 rfl rfl)
theorem dJ9_equals_8 : decode cJ9_equals 8 = .ok (.instanceof 10, 3) := dk_193 0 10 (dk_at dksJ9_equals_0 8 rfl rfl)
theorem dJ9_equals_11 : decode cJ9_equals 11 = .ok (.ifCond .eq 43, 3) := dk_153 0 43 (dk_at dksJ9_equals_0 11 rfl rfl)
theorem dJ9_equals_14 : decode cJ9_equals 14 = .ok (.aload_n 1, 1) := dk_43 (dk_at dksJ9_equals_0 14 rfl rfl)
theorem dJ9_equals_15 : decode cJ9_equals 15 = .ok (.checkcast 10, 3) := dk_192 0 10 (dk_at dksJ9_equals_0 15 rfl rfl)
theorem dJ9_equals_18 : decode cJ9_equals 18 = .ok (.astore_n 2, 1) := dk_77 (dk_at dksJ9_equals_0 18 rfl rfl)
theorem dJ9_equals_19 : decode cJ9_equals 19 = .ok (.getstatic 38, 3) := dk_178 0 38 (dk_at dksJ9_equals_0 19 rfl rfl)
theorem dJ9_equals_22 : decode cJ9_equals 22 = .ok (.ifCond .eq 14, 3) := dk_153 0 14 (dk_at dksJ9_equals_1 0 rfl rfl)
theorem dJ9_equals_25 : decode cJ9_equals 25 = .ok (.aload_n 0, 1) := dk_42 (dk_at dksJ9_equals_1 3 rfl rfl)
theorem dJ9_equals_26 : decode cJ9_equals 26 = .ok (.getfield 15, 3) := dk_180 0 15 (dk_at dksJ9_equals_1 4 rfl rfl)
theorem dJ9_equals_29 : decode cJ9_equals 29 = .ok (.aload_n 2, 1) := dk_44 (dk_at dksJ9_equals_1 7 rfl rfl)
theorem dJ9_equals_30 : decode cJ9_equals 30 = .ok (.getfield 15, 3) := dk_180 0 15 (dk_at dksJ9_equals_1 8 rfl rfl)
theorem dJ9_equals_33 : decode cJ9_equals 33 = .ok (.if_icmp .ne 21, 3) := dk_160 0 21 (dk_at dksJ9_equals_1 11 rfl rfl)
theorem dJ9_equals_36 : decode cJ9_equals 36 = .ok (.aload_n 0, 1) := dk_42 (dk_at dksJ9_equals_1 14 rfl rfl)
theorem dJ9_equals_37 : decode cJ9_equals 37 = .ok (.getfield 9, 3) := dk_180 0 9 (dk_at dksJ9_equals_1 15 rfl rfl)
theorem dJ9_equals_40 : decode cJ9_equals 40 = .ok (.aload_n 2, 1) := dk_44 (dk_at dksJ9_equals_1 18 rfl rfl)
theorem dJ9_equals_41 : decode cJ9_equals 41 = .ok (.getfield 9, 3) := dk_180 0 9 (dk_at dksJ9_equals_1 19 rfl rfl)
theorem dJ9_equals_44 : decode cJ9_equals 44 = .ok (.invokestatic 541, 3) := dk_184 2 29 (dk_at dksJ9_equals_2 0 rfl rfl)
theorem dJ9_equals_47 : decode cJ9_equals 47 = .ok (.ifCond .eq 7, 3) := dk_153 0 7 (dk_at dksJ9_equals_2 3 rfl rfl)
theorem dJ9_equals_50 : decode cJ9_equals 50 = .ok (.iconst 1, 1) := dk_4 (dk_at dksJ9_equals_2 6 rfl rfl)
theorem dJ9_equals_51 : decode cJ9_equals 51 = .ok (.goto 4, 3) := dk_167 0 4 (dk_at dksJ9_equals_2 7 rfl rfl)
theorem dJ9_equals_54 : decode cJ9_equals 54 = .ok (.iconst 0, 1) := dk_3 (dk_at dksJ9_equals_2 10 rfl rfl)
theorem dJ9_equals_55 : decode cJ9_equals 55 = .ok (.ireturn, 1) := dk_172 (dk_at dksJ9_equals_2 11 rfl rfl)
abbrev cJ9_charAt : ByteArray := prog_35_method_56_code
def yJ9_charAt : MethodName := ⟨RJ9, "charAt", "(I)C"⟩
def dkwJ9_charAt_1 : List UInt8 := [172]
abbrev dktJ9_charAt_1 : List UInt8 := dkwJ9_charAt_1 ++ []
def dkwJ9_charAt_0 : List UInt8 := [42, 182, 1, 236, 153, 0, 12, 42, 180, 0, 9, 27, 184, 1, 239, 172, 42, 180, 0, 9, 27, 184, 1, 242]
abbrev dktJ9_charAt_0 : List UInt8 := dkwJ9_charAt_0 ++ dktJ9_charAt_1
theorem dksJ9_charAt_0 : cJ9_charAt.data.toList.drop 0 = dktJ9_charAt_0 := by decide +kernel
theorem dksJ9_charAt_1 : cJ9_charAt.data.toList.drop 24 = dktJ9_charAt_1 := dk_seg dksJ9_charAt_0 24 rfl rfl
theorem dJ9_charAt_0 : decode cJ9_charAt 0 = .ok (.aload_n 0, 1) := dk_42 (dk_at dksJ9_charAt_0 0 rfl rfl)
theorem dJ9_charAt_1 : decode cJ9_charAt 1 = .ok (.invokevirtual 492, 3) := dk_182 1 236 (dk_at dksJ9_charAt_0 1 rfl rfl)
theorem dJ9_charAt_4 : decode cJ9_charAt 4 = .ok (.ifCond .eq 12, 3) := dk_153 0 12 (dk_at dksJ9_charAt_0 4 rfl rfl)
theorem dJ9_charAt_7 : decode cJ9_charAt 7 = .ok (.aload_n 0, 1) := dk_42 (dk_at dksJ9_charAt_0 7 rfl rfl)
theorem dJ9_charAt_8 : decode cJ9_charAt 8 = .ok (.getfield 9, 3) := dk_180 0 9 (dk_at dksJ9_charAt_0 8 rfl rfl)
theorem dJ9_charAt_11 : decode cJ9_charAt 11 = .ok (.iload_n 1, 1) := dk_27 (dk_at dksJ9_charAt_0 11 rfl rfl)
theorem dJ9_charAt_12 : decode cJ9_charAt 12 = .ok (.invokestatic 495, 3) := dk_184 1 239 (dk_at dksJ9_charAt_0 12 rfl rfl)
theorem dJ9_charAt_15 : decode cJ9_charAt 15 = .ok (.ireturn, 1) := dk_172 (dk_at dksJ9_charAt_0 15 rfl rfl)
theorem dJ9_charAt_16 : decode cJ9_charAt 16 = .ok (.aload_n 0, 1) := dk_42 (dk_at dksJ9_charAt_0 16 rfl rfl)
theorem dJ9_charAt_17 : decode cJ9_charAt 17 = .ok (.getfield 9, 3) := dk_180 0 9 (dk_at dksJ9_charAt_0 17 rfl rfl)
theorem dJ9_charAt_20 : decode cJ9_charAt 20 = .ok (.iload_n 1, 1) := dk_27 (dk_at dksJ9_charAt_0 20 rfl rfl)
theorem dJ9_charAt_21 : decode cJ9_charAt 21 = .ok (.invokestatic 498, 3) := dk_184 1 242 (dk_at dksJ9_charAt_0 21 rfl rfl)
theorem dJ9_charAt_24 : decode cJ9_charAt 24 = .ok (.ireturn, 1) := dk_172 (dk_at dksJ9_charAt_1 0 rfl rfl)
abbrev cJ9_isLatin1 : ByteArray := prog_35_method_154_code
def yJ9_isLatin1 : MethodName := ⟨RJ9, "isLatin1", "()Z"⟩
def dkwJ9_isLatin1_0 : List UInt8 := [178, 0, 38, 153, 0, 14, 42, 180, 0, 15, 154, 0, 7, 4, 167, 0, 4, 3, 172]
abbrev dktJ9_isLatin1_0 : List UInt8 := dkwJ9_isLatin1_0 ++ []
theorem dksJ9_isLatin1_0 : cJ9_isLatin1.data.toList.drop 0 = dktJ9_isLatin1_0 := by decide +kernel
theorem dJ9_isLatin1_0 : decode cJ9_isLatin1 0 = .ok (.getstatic 38, 3) := dk_178 0 38 (dk_at dksJ9_isLatin1_0 0 rfl rfl)
theorem dJ9_isLatin1_3 : decode cJ9_isLatin1 3 = .ok (.ifCond .eq 14, 3) := dk_153 0 14 (dk_at dksJ9_isLatin1_0 3 rfl rfl)
theorem dJ9_isLatin1_6 : decode cJ9_isLatin1 6 = .ok (.aload_n 0, 1) := dk_42 (dk_at dksJ9_isLatin1_0 6 rfl rfl)
theorem dJ9_isLatin1_7 : decode cJ9_isLatin1 7 = .ok (.getfield 15, 3) := dk_180 0 15 (dk_at dksJ9_isLatin1_0 7 rfl rfl)
theorem dJ9_isLatin1_10 : decode cJ9_isLatin1 10 = .ok (.ifCond .ne 7, 3) := dk_154 0 7 (dk_at dksJ9_isLatin1_0 10 rfl rfl)
theorem dJ9_isLatin1_13 : decode cJ9_isLatin1 13 = .ok (.iconst 1, 1) := dk_4 (dk_at dksJ9_isLatin1_0 13 rfl rfl)
theorem dJ9_isLatin1_14 : decode cJ9_isLatin1 14 = .ok (.goto 4, 3) := dk_167 0 4 (dk_at dksJ9_isLatin1_0 14 rfl rfl)
theorem dJ9_isLatin1_17 : decode cJ9_isLatin1 17 = .ok (.iconst 0, 1) := dk_3 (dk_at dksJ9_isLatin1_0 17 rfl rfl)
theorem dJ9_isLatin1_18 : decode cJ9_isLatin1 18 = .ok (.ireturn, 1) := dk_172 (dk_at dksJ9_isLatin1_0 18 rfl rfl)
theorem q118 : (Jvm.Cond.initialized "java/lang/String") ∈ lw_all := lw_g (lw_at lw_m1 12 rfl) rfl
theorem q229 : (Jvm.Cond.laysStatic "java/lang/String" "COMPACT_STRINGS" "Z") ∈ lw_tbl := lw_at lw_m1 123 rfl
theorem q239 : (Jvm.Cond.fieldLink "java/lang/String" (1048 : Nat) "java/lang/AbstractStringBuilder" "maybeLatin1" "Z") ∈ lw_all := lw_g (lw_at lw_m1 133 rfl) rfl
theorem q313 : (Jvm.Cond.static ({ cls := "java/lang/String", name := "checkBoundsBeginEnd", desc := "(III)V" } : Jvm.MethodName)) ∈ lw_all := lw_g (lw_at lw_m1 207 rfl) rfl
theorem q314 : (Jvm.Cond.code ({ cls := "java/lang/String", name := "checkBoundsBeginEnd", desc := "(III)V" } : Jvm.MethodName) prog_35_method_158_code (3 : Nat) (Option.none : Option Jvm.ClassFile.FieldType)) ∈ lw_all := lw_g (lw_at lw_m1 208 rfl) rfl
theorem q315 : (Jvm.Cond.fieldLink "java/lang/String" (1053 : Nat) "jdk/internal/util/Preconditions" "SIOOBE_FORMATTER" "Ljava/util/function/BiFunction;") ∈ lw_all := lw_g (lw_at lw_m1 209 rfl) rfl
theorem q317 : (Jvm.Cond.methodLink "java/lang/String" (1062 : Nat) ({ cls := "jdk/internal/util/Preconditions", name := "checkFromToIndex", desc := "(IIILjava/util/function/BiFunction;)I" } : Jvm.MethodName)) ∈ lw_all := lw_g (lw_at lw_m1 211 rfl) rfl
theorem q330 : (Jvm.Cond.instanceMethod ({ cls := "java/lang/String", name := "length", desc := "()I" } : Jvm.MethodName)) ∈ lw_all := lw_g (lw_at lw_m1 224 rfl) rfl
theorem q331 : (Jvm.Cond.selects "java/lang/String" ({ cls := "java/lang/String", name := "length", desc := "()I" } : Jvm.MethodName) ({ cls := "java/lang/String", name := "length", desc := "()I" } : Jvm.MethodName)) ∈ lw_all := lw_g (lw_at lw_m1 225 rfl) rfl
theorem q332 : (Jvm.Cond.code ({ cls := "java/lang/String", name := "length", desc := "()I" } : Jvm.MethodName) prog_35_method_54_code (1 : Nat) (Option.some Jvm.ClassFile.FieldType.int)) ∈ lw_all := lw_g (lw_at lw_m1 226 rfl) rfl
theorem q333 : (Jvm.Cond.methodLink "java/lang/String" (335 : Nat) ({ cls := "java/lang/String", name := "coder", desc := "()B" } : Jvm.MethodName)) ∈ lw_all := lw_g (lw_at lw_m1 227 rfl) rfl
theorem q334 : (Jvm.Cond.instanceMethod ({ cls := "java/lang/String", name := "coder", desc := "()B" } : Jvm.MethodName)) ∈ lw_all := lw_g (lw_at lw_m1 228 rfl) rfl
theorem q335 : (Jvm.Cond.selects "java/lang/String" ({ cls := "java/lang/String", name := "coder", desc := "()B" } : Jvm.MethodName) ({ cls := "java/lang/String", name := "coder", desc := "()B" } : Jvm.MethodName)) ∈ lw_all := lw_g (lw_at lw_m1 229 rfl) rfl
theorem q336 : (Jvm.Cond.code ({ cls := "java/lang/String", name := "coder", desc := "()B" } : Jvm.MethodName) prog_35_method_152_code (1 : Nat) (Option.some Jvm.ClassFile.FieldType.byte)) ∈ lw_all := lw_g (lw_at lw_m1 230 rfl) rfl
theorem q337 : (Jvm.Cond.fieldLink "java/lang/String" (38 : Nat) "java/lang/String" "COMPACT_STRINGS" "Z") ∈ lw_all := lw_g (lw_at lw_m1 231 rfl) rfl
theorem q361 : (Jvm.Cond.static ({ cls := "java/lang/String", name := "checkBoundsOffCount", desc := "(III)I" } : Jvm.MethodName)) ∈ lw_all := lw_g (lw_at lw_m2 15 rfl) rfl
theorem q362 : (Jvm.Cond.code ({ cls := "java/lang/String", name := "checkBoundsOffCount", desc := "(III)I" } : Jvm.MethodName) prog_35_method_157_code (3 : Nat) (Option.some Jvm.ClassFile.FieldType.int)) ∈ lw_all := lw_g (lw_at lw_m2 16 rfl) rfl
theorem q363 : (Jvm.Cond.methodLink "java/lang/String" (1065 : Nat) ({ cls := "jdk/internal/util/Preconditions", name := "checkFromIndexSize", desc := "(IIILjava/util/function/BiFunction;)I" } : Jvm.MethodName)) ∈ lw_all := lw_g (lw_at lw_m2 17 rfl) rfl
theorem q367 : (Jvm.Cond.instanceMethod ({ cls := "java/lang/String", name := "getBytes", desc := "([BIB)V" } : Jvm.MethodName)) ∈ lw_all := lw_g (lw_at lw_m2 21 rfl) rfl
theorem q368 : (Jvm.Cond.selects "java/lang/String" ({ cls := "java/lang/String", name := "getBytes", desc := "([BIB)V" } : Jvm.MethodName) ({ cls := "java/lang/String", name := "getBytes", desc := "([BIB)V" } : Jvm.MethodName)) ∈ lw_all := lw_g (lw_at lw_m2 22 rfl) rfl
theorem q369 : (Jvm.Cond.code ({ cls := "java/lang/String", name := "getBytes", desc := "([BIB)V" } : Jvm.MethodName) prog_35_method_147_code (4 : Nat) (Option.none : Option Jvm.ClassFile.FieldType)) ∈ lw_all := lw_g (lw_at lw_m2 23 rfl) rfl
theorem q370 : (Jvm.Cond.methodLink "java/lang/String" (212 : Nat) ({ cls := "java/lang/System", name := "arraycopy", desc := "(Ljava/lang/Object;ILjava/lang/Object;II)V" } : Jvm.MethodName)) ∈ lw_all := lw_g (lw_at lw_m2 24 rfl) rfl
theorem q371 : (Jvm.Cond.methodLink "java/lang/String" (106 : Nat) ({ cls := "java/lang/StringLatin1", name := "inflate", desc := "([BI[BII)V" } : Jvm.MethodName)) ∈ lw_all := lw_g (lw_at lw_m2 25 rfl) rfl
theorem q402 : (Jvm.Cond.instantiable "java/lang/String" (4 : Nat)) ∈ lw_all := lw_g (lw_at lw_m2 56 rfl) rfl
theorem q404 : (Jvm.Cond.instanceMethod ({ cls := "java/lang/String", name := "<init>", desc := "(Ljava/lang/StringBuilder;)V" } : Jvm.MethodName)) ∈ lw_all := lw_g (lw_at lw_m2 58 rfl) rfl
theorem q405 : (Jvm.Cond.code ({ cls := "java/lang/String", name := "<init>", desc := "(Ljava/lang/StringBuilder;)V" } : Jvm.MethodName) prog_35_method_53_code (2 : Nat) (Option.none : Option Jvm.ClassFile.FieldType)) ∈ lw_all := lw_g (lw_at lw_m2 59 rfl) rfl
theorem q406 : (Jvm.Cond.methodLink "java/lang/String" (489 : Nat) ({ cls := "java/lang/String", name := "<init>", desc := "(Ljava/lang/AbstractStringBuilder;Ljava/lang/Void;)V" } : Jvm.MethodName)) ∈ lw_all := lw_g (lw_at lw_m2 60 rfl) rfl
theorem q407 : (Jvm.Cond.instanceMethod ({ cls := "java/lang/String", name := "<init>", desc := "(Ljava/lang/AbstractStringBuilder;Ljava/lang/Void;)V" } : Jvm.MethodName)) ∈ lw_all := lw_g (lw_at lw_m2 61 rfl) rfl
theorem q408 : (Jvm.Cond.code ({ cls := "java/lang/String", name := "<init>", desc := "(Ljava/lang/AbstractStringBuilder;Ljava/lang/Void;)V" } : Jvm.MethodName) prog_35_method_150_code (5 : Nat) (Option.none : Option Jvm.ClassFile.FieldType)) ∈ lw_all := lw_g (lw_at lw_m2 62 rfl) rfl
theorem q409 : (Jvm.Cond.methodLink "java/lang/String" (1 : Nat) ({ cls := "java/lang/Object", name := "<init>", desc := "()V" } : Jvm.MethodName)) ∈ lw_all := lw_g (lw_at lw_m2 63 rfl) rfl
theorem q410 : (Jvm.Cond.methodLink "java/lang/String" (552 : Nat) ({ cls := "java/lang/AbstractStringBuilder", name := "getValue", desc := "()[B" } : Jvm.MethodName)) ∈ lw_all := lw_g (lw_at lw_m2 64 rfl) rfl
theorem q415 : (Jvm.Cond.methodLink "java/lang/String" (549 : Nat) ({ cls := "java/lang/AbstractStringBuilder", name := "length", desc := "()I" } : Jvm.MethodName)) ∈ lw_all := lw_g (lw_at lw_m2 69 rfl) rfl
theorem q423 : (Jvm.Cond.methodLink "java/lang/String" (1047 : Nat) ({ cls := "java/lang/AbstractStringBuilder", name := "isLatin1", desc := "()Z" } : Jvm.MethodName)) ∈ lw_all := lw_g (lw_at lw_m2 77 rfl) rfl
theorem q424 : (Jvm.Cond.methodLink "java/lang/String" (54 : Nat) ({ cls := "java/util/Arrays", name := "copyOfRange", desc := "([BII)[B" } : Jvm.MethodName)) ∈ lw_all := lw_g (lw_at lw_m2 78 rfl) rfl
theorem q465 : (Jvm.Cond.methodLink "java/lang/String" (1051 : Nat) ({ cls := "java/lang/StringUTF16", name := "compress", desc := "([BII)[B" } : Jvm.MethodName)) ∈ lw_all := lw_g (lw_at lw_m2 119 rfl) rfl
theorem q475 : (Jvm.Cond.methodLink "java/lang/String" (47 : Nat) ({ cls := "java/lang/StringUTF16", name := "coderFromArrayLen", desc := "([BI)B" } : Jvm.MethodName)) ∈ lw_all := lw_g (lw_at lw_m2 129 rfl) rfl
theorem q478 : (Jvm.Cond.fieldLink "java/lang/String" (9 : Nat) "java/lang/String" "value" "[B") ∈ lw_all := lw_g (lw_at lw_m2 132 rfl) rfl
theorem q479 : (Jvm.Cond.fieldLink "java/lang/String" (15 : Nat) "java/lang/String" "coder" "B") ∈ lw_all := lw_g (lw_at lw_m2 133 rfl) rfl
theorem q480 : (Jvm.Cond.laysFinal "java/lang/String" "java/lang/String" "value" "[B") ∈ lw_all := lw_g (lw_at lw_m2 134 rfl) rfl
theorem q481 : (Jvm.Cond.soleField "java/lang/String" "value") ∈ lw_all := lw_g (lw_at lw_m2 135 rfl) rfl
theorem q482 : (Jvm.Cond.laysFinal "java/lang/String" "java/lang/String" "coder" "B") ∈ lw_all := lw_g (lw_at lw_m2 136 rfl) rfl
theorem q483 : (Jvm.Cond.soleField "java/lang/String" "coder") ∈ lw_all := lw_g (lw_at lw_m2 137 rfl) rfl
theorem q484 : (Jvm.Cond.lays "java/lang/String" "java/lang/String" "hash" "I") ∈ lw_all := lw_g (lw_at lw_m2 138 rfl) rfl
theorem q485 : (Jvm.Cond.soleField "java/lang/String" "hash") ∈ lw_all := lw_g (lw_at lw_m2 139 rfl) rfl
theorem q486 : (Jvm.Cond.lays "java/lang/String" "java/lang/String" "hashIsZero" "Z") ∈ lw_all := lw_g (lw_at lw_m2 140 rfl) rfl
theorem q487 : (Jvm.Cond.soleField "java/lang/String" "hashIsZero") ∈ lw_all := lw_g (lw_at lw_m2 141 rfl) rfl
theorem q488 : (Jvm.Cond.superclass "java/lang/String" "java/lang/Object") ∈ lw_all := lw_g (lw_at lw_m2 142 rfl) rfl
theorem q637 : (Jvm.Cond.selects "java/lang/String" ({ cls := "java/lang/Object", name := "getClass", desc := "()Ljava/lang/Class;" } : Jvm.MethodName) ({ cls := "java/lang/Object", name := "getClass", desc := "()Ljava/lang/Class;" } : Jvm.MethodName)) ∈ lw_all := lw_g (lw_at lw_m3 51 rfl) rfl
theorem q1194 : (Jvm.Cond.static ({ cls := "java/lang/String", name := "checkIndex", desc := "(II)V" } : Jvm.MethodName)) ∈ lw_all := lw_g (lw_at lw_m5 128 rfl) rfl
theorem q1195 : (Jvm.Cond.code ({ cls := "java/lang/String", name := "checkIndex", desc := "(II)V" } : Jvm.MethodName) prog_35_method_155_code (2 : Nat) (Option.none : Option Jvm.ClassFile.FieldType)) ∈ lw_all := lw_g (lw_at lw_m5 129 rfl) rfl
theorem q1196 : (Jvm.Cond.methodLink "java/lang/String" (1059 : Nat) ({ cls := "jdk/internal/util/Preconditions", name := "checkIndex", desc := "(IILjava/util/function/BiFunction;)I" } : Jvm.MethodName)) ∈ lw_all := lw_g (lw_at lw_m5 130 rfl) rfl
theorem q1213 : (Jvm.Cond.static ({ cls := "java/lang/String", name := "valueOf", desc := "(C)Ljava/lang/String;" } : Jvm.MethodName)) ∈ lw_all := lw_g (lw_at lw_m5 147 rfl) rfl
theorem q1214 : (Jvm.Cond.code ({ cls := "java/lang/String", name := "valueOf", desc := "(C)Ljava/lang/String;" } : Jvm.MethodName) prog_35_method_139_code (1 : Nat) (Option.some (Jvm.ClassFile.FieldType.object "java/lang/String"))) ∈ lw_all := lw_g (lw_at lw_m5 148 rfl) rfl
theorem q1215 : (Jvm.Cond.methodLink "java/lang/String" (1015 : Nat) ({ cls := "java/lang/StringLatin1", name := "canEncode", desc := "(C)Z" } : Jvm.MethodName)) ∈ lw_all := lw_g (lw_at lw_m5 149 rfl) rfl
theorem q1216 : (Jvm.Cond.classLink "java/lang/String" (10 : Nat) "java/lang/String") ∈ lw_all := lw_g (lw_at lw_m5 150 rfl) rfl
theorem q1217 : (Jvm.Cond.methodLink "java/lang/String" (1018 : Nat) ({ cls := "java/lang/StringLatin1", name := "toBytes", desc := "(C)[B" } : Jvm.MethodName)) ∈ lw_all := lw_g (lw_at lw_m5 151 rfl) rfl
theorem q1220 : (Jvm.Cond.methodLink "java/lang/String" (209 : Nat) ({ cls := "java/lang/String", name := "<init>", desc := "([BB)V" } : Jvm.MethodName)) ∈ lw_all := lw_g (lw_at lw_m5 154 rfl) rfl
theorem q1221 : (Jvm.Cond.instanceMethod ({ cls := "java/lang/String", name := "<init>", desc := "([BB)V" } : Jvm.MethodName)) ∈ lw_all := lw_g (lw_at lw_m5 155 rfl) rfl
theorem q1222 : (Jvm.Cond.code ({ cls := "java/lang/String", name := "<init>", desc := "([BB)V" } : Jvm.MethodName) prog_35_method_151_code (3 : Nat) (Option.none : Option Jvm.ClassFile.FieldType)) ∈ lw_all := lw_g (lw_at lw_m5 156 rfl) rfl
theorem q1223 : (Jvm.Cond.methodLink "java/lang/String" (1021 : Nat) ({ cls := "java/lang/StringUTF16", name := "toBytes", desc := "(C)[B" } : Jvm.MethodName)) ∈ lw_all := lw_g (lw_at lw_m5 157 rfl) rfl
theorem q1270 : (Jvm.Cond.instanceMethod ({ cls := "java/lang/String", name := "equals", desc := "(Ljava/lang/Object;)Z" } : Jvm.MethodName)) ∈ lw_all := lw_g (lw_at lw_m5 204 rfl) rfl
theorem q1271 : (Jvm.Cond.selects "java/lang/String" ({ cls := "java/lang/String", name := "equals", desc := "(Ljava/lang/Object;)Z" } : Jvm.MethodName) ({ cls := "java/lang/String", name := "equals", desc := "(Ljava/lang/Object;)Z" } : Jvm.MethodName)) ∈ lw_all := lw_g (lw_at lw_m5 205 rfl) rfl
theorem q1272 : (Jvm.Cond.code ({ cls := "java/lang/String", name := "equals", desc := "(Ljava/lang/Object;)Z" } : Jvm.MethodName) prog_35_method_66_code (3 : Nat) (Option.some Jvm.ClassFile.FieldType.boolean)) ∈ lw_all := lw_g (lw_at lw_m5 206 rfl) rfl
theorem q1273 : (Jvm.Cond.methodLink "java/lang/String" (541 : Nat) ({ cls := "java/lang/StringLatin1", name := "equals", desc := "([B[B)Z" } : Jvm.MethodName)) ∈ lw_all := lw_g (lw_at lw_m5 207 rfl) rfl
theorem q1381 : (Jvm.Cond.instanceMethod ({ cls := "java/lang/String", name := "charAt", desc := "(I)C" } : Jvm.MethodName)) ∈ lw_all := lw_g (lw_at lw_m6 75 rfl) rfl
theorem q1382 : (Jvm.Cond.selects "java/lang/String" ({ cls := "java/lang/String", name := "charAt", desc := "(I)C" } : Jvm.MethodName) ({ cls := "java/lang/String", name := "charAt", desc := "(I)C" } : Jvm.MethodName)) ∈ lw_all := lw_g (lw_at lw_m6 76 rfl) rfl
theorem q1383 : (Jvm.Cond.code ({ cls := "java/lang/String", name := "charAt", desc := "(I)C" } : Jvm.MethodName) prog_35_method_56_code (2 : Nat) (Option.some Jvm.ClassFile.FieldType.char)) ∈ lw_all := lw_g (lw_at lw_m6 77 rfl) rfl
theorem q1384 : (Jvm.Cond.methodLink "java/lang/String" (492 : Nat) ({ cls := "java/lang/String", name := "isLatin1", desc := "()Z" } : Jvm.MethodName)) ∈ lw_all := lw_g (lw_at lw_m6 78 rfl) rfl
theorem q1385 : (Jvm.Cond.instanceMethod ({ cls := "java/lang/String", name := "isLatin1", desc := "()Z" } : Jvm.MethodName)) ∈ lw_all := lw_g (lw_at lw_m6 79 rfl) rfl
theorem q1386 : (Jvm.Cond.selects "java/lang/String" ({ cls := "java/lang/String", name := "isLatin1", desc := "()Z" } : Jvm.MethodName) ({ cls := "java/lang/String", name := "isLatin1", desc := "()Z" } : Jvm.MethodName)) ∈ lw_all := lw_g (lw_at lw_m6 80 rfl) rfl
theorem q1387 : (Jvm.Cond.code ({ cls := "java/lang/String", name := "isLatin1", desc := "()Z" } : Jvm.MethodName) prog_35_method_154_code (1 : Nat) (Option.some Jvm.ClassFile.FieldType.boolean)) ∈ lw_all := lw_g (lw_at lw_m6 81 rfl) rfl
theorem q1388 : (Jvm.Cond.methodLink "java/lang/String" (495 : Nat) ({ cls := "java/lang/StringLatin1", name := "charAt", desc := "([BI)C" } : Jvm.MethodName)) ∈ lw_all := lw_g (lw_at lw_m6 82 rfl) rfl
theorem q1392 : (Jvm.Cond.methodLink "java/lang/String" (498 : Nat) ({ cls := "java/lang/StringUTF16", name := "charAt", desc := "([BI)C" } : Jvm.MethodName)) ∈ lw_all := lw_g (lw_at lw_m6 86 rfl) rfl
theorem q2393 : (Jvm.Cond.castable "java/lang/String" "java/lang/Object") ∈ lw_tbl := lw_at lw_m10 127 rfl
theorem in_J9 : ∀ w ∈ wsJ90, w ∈ lw_all := lw_in wsJ90 [480, 482, 484, 486] (by decide +kernel) (by decide +kernel)
/-! TableTowerLaw -/
set_option maxRecDepth 100000
def RX0 : String := "TableTowerLaw"
abbrev cX0_town : ByteArray := method_3_code
def yX0_town : MethodName := ⟨RX0, "town", "(LTableTower;I[J)I"⟩
def dkwX0_town_0 : List UInt8 := [44, 3, 42, 27, 182, 0, 7, 133, 80, 167, 0, 6, 78, 4, 172, 3, 172]
abbrev dktX0_town_0 : List UInt8 := dkwX0_town_0 ++ []
theorem dksX0_town_0 : cX0_town.data.toList.drop 0 = dktX0_town_0 := by decide +kernel
theorem dX0_town_0 : decode cX0_town 0 = .ok (.aload_n 2, 1) := dk_44 (dk_at dksX0_town_0 0 rfl rfl)
theorem dX0_town_1 : decode cX0_town 1 = .ok (.iconst 0, 1) := dk_3 (dk_at dksX0_town_0 1 rfl rfl)
theorem dX0_town_2 : decode cX0_town 2 = .ok (.aload_n 0, 1) := dk_42 (dk_at dksX0_town_0 2 rfl rfl)
theorem dX0_town_3 : decode cX0_town 3 = .ok (.iload_n 1, 1) := dk_27 (dk_at dksX0_town_0 3 rfl rfl)
theorem dX0_town_4 : decode cX0_town 4 = .ok (.invokevirtual 7, 3) := dk_182 0 7 (dk_at dksX0_town_0 4 rfl rfl)
theorem dX0_town_7 : decode cX0_town 7 = .ok (.i2l, 1) := dk_133 (dk_at dksX0_town_0 7 rfl rfl)
theorem dX0_town_8 : decode cX0_town 8 = .ok (.lastore, 1) := dk_80 (dk_at dksX0_town_0 8 rfl rfl)
theorem dX0_town_9 : decode cX0_town 9 = .ok (.goto 6, 3) := dk_167 0 6 (dk_at dksX0_town_0 9 rfl rfl)
theorem dX0_town_12 : decode cX0_town 12 = .ok (.astore_n 3, 1) := dk_78 (dk_at dksX0_town_0 12 rfl rfl)
theorem dX0_town_13 : decode cX0_town 13 = .ok (.iconst 1, 1) := dk_4 (dk_at dksX0_town_0 13 rfl rfl)
theorem dX0_town_14 : decode cX0_town 14 = .ok (.ireturn, 1) := dk_172 (dk_at dksX0_town_0 14 rfl rfl)
theorem dX0_town_15 : decode cX0_town 15 = .ok (.iconst 0, 1) := dk_3 (dk_at dksX0_town_0 15 rfl rfl)
theorem dX0_town_16 : decode cX0_town 16 = .ok (.ireturn, 1) := dk_172 (dk_at dksX0_town_0 16 rfl rfl)
abbrev cX0_count : ByteArray := method_4_code
def yX0_count : MethodName := ⟨RX0, "count", "(LTableTower;I[J)I"⟩
def dkwX0_count_0 : List UInt8 := [44, 3, 42, 27, 182, 0, 15, 133, 80, 167, 0, 6, 78, 4, 172, 3, 172]
abbrev dktX0_count_0 : List UInt8 := dkwX0_count_0 ++ []
theorem dksX0_count_0 : cX0_count.data.toList.drop 0 = dktX0_count_0 := by decide +kernel
theorem dX0_count_0 : decode cX0_count 0 = .ok (.aload_n 2, 1) := dk_44 (dk_at dksX0_count_0 0 rfl rfl)
theorem dX0_count_1 : decode cX0_count 1 = .ok (.iconst 0, 1) := dk_3 (dk_at dksX0_count_0 1 rfl rfl)
theorem dX0_count_2 : decode cX0_count 2 = .ok (.aload_n 0, 1) := dk_42 (dk_at dksX0_count_0 2 rfl rfl)
theorem dX0_count_3 : decode cX0_count 3 = .ok (.iload_n 1, 1) := dk_27 (dk_at dksX0_count_0 3 rfl rfl)
theorem dX0_count_4 : decode cX0_count 4 = .ok (.invokevirtual 15, 3) := dk_182 0 15 (dk_at dksX0_count_0 4 rfl rfl)
theorem dX0_count_7 : decode cX0_count 7 = .ok (.i2l, 1) := dk_133 (dk_at dksX0_count_0 7 rfl rfl)
theorem dX0_count_8 : decode cX0_count 8 = .ok (.lastore, 1) := dk_80 (dk_at dksX0_count_0 8 rfl rfl)
theorem dX0_count_9 : decode cX0_count 9 = .ok (.goto 6, 3) := dk_167 0 6 (dk_at dksX0_count_0 9 rfl rfl)
theorem dX0_count_12 : decode cX0_count 12 = .ok (.astore_n 3, 1) := dk_78 (dk_at dksX0_count_0 12 rfl rfl)
theorem dX0_count_13 : decode cX0_count 13 = .ok (.iconst 1, 1) := dk_4 (dk_at dksX0_count_0 13 rfl rfl)
theorem dX0_count_14 : decode cX0_count 14 = .ok (.ireturn, 1) := dk_172 (dk_at dksX0_count_0 14 rfl rfl)
theorem dX0_count_15 : decode cX0_count 15 = .ok (.iconst 0, 1) := dk_3 (dk_at dksX0_count_0 15 rfl rfl)
theorem dX0_count_16 : decode cX0_count 16 = .ok (.ireturn, 1) := dk_172 (dk_at dksX0_count_0 16 rfl rfl)
abbrev cX0_table : ByteArray := method_5_code
def yX0_table : MethodName := ⟨RX0, "table", "(LTableTower;II[J)I"⟩
def dkwX0_table_0 : List UInt8 := [45, 3, 42, 27, 28, 182, 0, 20, 133, 80, 167, 0, 7, 58, 4, 4, 172, 3, 172]
abbrev dktX0_table_0 : List UInt8 := dkwX0_table_0 ++ []
theorem dksX0_table_0 : cX0_table.data.toList.drop 0 = dktX0_table_0 := by decide +kernel
theorem dX0_table_0 : decode cX0_table 0 = .ok (.aload_n 3, 1) := dk_45 (dk_at dksX0_table_0 0 rfl rfl)
theorem dX0_table_1 : decode cX0_table 1 = .ok (.iconst 0, 1) := dk_3 (dk_at dksX0_table_0 1 rfl rfl)
theorem dX0_table_2 : decode cX0_table 2 = .ok (.aload_n 0, 1) := dk_42 (dk_at dksX0_table_0 2 rfl rfl)
theorem dX0_table_3 : decode cX0_table 3 = .ok (.iload_n 1, 1) := dk_27 (dk_at dksX0_table_0 3 rfl rfl)
theorem dX0_table_4 : decode cX0_table 4 = .ok (.iload_n 2, 1) := dk_28 (dk_at dksX0_table_0 4 rfl rfl)
theorem dX0_table_5 : decode cX0_table 5 = .ok (.invokevirtual 20, 3) := dk_182 0 20 (dk_at dksX0_table_0 5 rfl rfl)
theorem dX0_table_8 : decode cX0_table 8 = .ok (.i2l, 1) := dk_133 (dk_at dksX0_table_0 8 rfl rfl)
theorem dX0_table_9 : decode cX0_table 9 = .ok (.lastore, 1) := dk_80 (dk_at dksX0_table_0 9 rfl rfl)
theorem dX0_table_10 : decode cX0_table 10 = .ok (.goto 7, 3) := dk_167 0 7 (dk_at dksX0_table_0 10 rfl rfl)
theorem dX0_table_13 : decode cX0_table 13 = .ok (.astore 4, 2) := dk_58 4 (dk_at dksX0_table_0 13 rfl rfl)
theorem dX0_table_15 : decode cX0_table 15 = .ok (.iconst 1, 1) := dk_4 (dk_at dksX0_table_0 15 rfl rfl)
theorem dX0_table_16 : decode cX0_table 16 = .ok (.ireturn, 1) := dk_172 (dk_at dksX0_table_0 16 rfl rfl)
theorem dX0_table_17 : decode cX0_table 17 = .ok (.iconst 0, 1) := dk_3 (dk_at dksX0_table_0 17 rfl rfl)
theorem dX0_table_18 : decode cX0_table 18 = .ok (.ireturn, 1) := dk_172 (dk_at dksX0_table_0 18 rfl rfl)
abbrev cX0_level : ByteArray := method_6_code
def yX0_level : MethodName := ⟨RX0, "level", "(LTableTower;II[J)I"⟩
def dkwX0_level_0 : List UInt8 := [45, 3, 42, 27, 28, 182, 0, 24, 133, 80, 167, 0, 7, 58, 4, 4, 172, 3, 172]
abbrev dktX0_level_0 : List UInt8 := dkwX0_level_0 ++ []
theorem dksX0_level_0 : cX0_level.data.toList.drop 0 = dktX0_level_0 := by decide +kernel
theorem dX0_level_0 : decode cX0_level 0 = .ok (.aload_n 3, 1) := dk_45 (dk_at dksX0_level_0 0 rfl rfl)
theorem dX0_level_1 : decode cX0_level 1 = .ok (.iconst 0, 1) := dk_3 (dk_at dksX0_level_0 1 rfl rfl)
theorem dX0_level_2 : decode cX0_level 2 = .ok (.aload_n 0, 1) := dk_42 (dk_at dksX0_level_0 2 rfl rfl)
theorem dX0_level_3 : decode cX0_level 3 = .ok (.iload_n 1, 1) := dk_27 (dk_at dksX0_level_0 3 rfl rfl)
theorem dX0_level_4 : decode cX0_level 4 = .ok (.iload_n 2, 1) := dk_28 (dk_at dksX0_level_0 4 rfl rfl)
theorem dX0_level_5 : decode cX0_level 5 = .ok (.invokevirtual 24, 3) := dk_182 0 24 (dk_at dksX0_level_0 5 rfl rfl)
theorem dX0_level_8 : decode cX0_level 8 = .ok (.i2l, 1) := dk_133 (dk_at dksX0_level_0 8 rfl rfl)
theorem dX0_level_9 : decode cX0_level 9 = .ok (.lastore, 1) := dk_80 (dk_at dksX0_level_0 9 rfl rfl)
theorem dX0_level_10 : decode cX0_level 10 = .ok (.goto 7, 3) := dk_167 0 7 (dk_at dksX0_level_0 10 rfl rfl)
theorem dX0_level_13 : decode cX0_level 13 = .ok (.astore 4, 2) := dk_58 4 (dk_at dksX0_level_0 13 rfl rfl)
theorem dX0_level_15 : decode cX0_level 15 = .ok (.iconst 1, 1) := dk_4 (dk_at dksX0_level_0 15 rfl rfl)
theorem dX0_level_16 : decode cX0_level 16 = .ok (.ireturn, 1) := dk_172 (dk_at dksX0_level_0 16 rfl rfl)
theorem dX0_level_17 : decode cX0_level 17 = .ok (.iconst 0, 1) := dk_3 (dk_at dksX0_level_0 17 rfl rfl)
theorem dX0_level_18 : decode cX0_level 18 = .ok (.ireturn, 1) := dk_172 (dk_at dksX0_level_0 18 rfl rfl)
abbrev cX0_put : ByteArray := method_7_code
def yX0_put : MethodName := ⟨RX0, "put", "(LTableTower;II[J)I"⟩
def dkwX0_put_0 : List UInt8 := [45, 3, 42, 27, 28, 182, 0, 27, 133, 80, 167, 0, 7, 58, 4, 4, 172, 3, 172]
abbrev dktX0_put_0 : List UInt8 := dkwX0_put_0 ++ []
theorem dksX0_put_0 : cX0_put.data.toList.drop 0 = dktX0_put_0 := by decide +kernel
theorem dX0_put_0 : decode cX0_put 0 = .ok (.aload_n 3, 1) := dk_45 (dk_at dksX0_put_0 0 rfl rfl)
theorem dX0_put_1 : decode cX0_put 1 = .ok (.iconst 0, 1) := dk_3 (dk_at dksX0_put_0 1 rfl rfl)
theorem dX0_put_2 : decode cX0_put 2 = .ok (.aload_n 0, 1) := dk_42 (dk_at dksX0_put_0 2 rfl rfl)
theorem dX0_put_3 : decode cX0_put 3 = .ok (.iload_n 1, 1) := dk_27 (dk_at dksX0_put_0 3 rfl rfl)
theorem dX0_put_4 : decode cX0_put 4 = .ok (.iload_n 2, 1) := dk_28 (dk_at dksX0_put_0 4 rfl rfl)
theorem dX0_put_5 : decode cX0_put 5 = .ok (.invokevirtual 27, 3) := dk_182 0 27 (dk_at dksX0_put_0 5 rfl rfl)
theorem dX0_put_8 : decode cX0_put 8 = .ok (.i2l, 1) := dk_133 (dk_at dksX0_put_0 8 rfl rfl)
theorem dX0_put_9 : decode cX0_put 9 = .ok (.lastore, 1) := dk_80 (dk_at dksX0_put_0 9 rfl rfl)
theorem dX0_put_10 : decode cX0_put 10 = .ok (.goto 7, 3) := dk_167 0 7 (dk_at dksX0_put_0 10 rfl rfl)
theorem dX0_put_13 : decode cX0_put 13 = .ok (.astore 4, 2) := dk_58 4 (dk_at dksX0_put_0 13 rfl rfl)
theorem dX0_put_15 : decode cX0_put 15 = .ok (.iconst 1, 1) := dk_4 (dk_at dksX0_put_0 15 rfl rfl)
theorem dX0_put_16 : decode cX0_put 16 = .ok (.ireturn, 1) := dk_172 (dk_at dksX0_put_0 16 rfl rfl)
theorem dX0_put_17 : decode cX0_put 17 = .ok (.iconst 0, 1) := dk_3 (dk_at dksX0_put_0 17 rfl rfl)
theorem dX0_put_18 : decode cX0_put 18 = .ok (.ireturn, 1) := dk_172 (dk_at dksX0_put_0 18 rfl rfl)
abbrev cX0_take : ByteArray := method_8_code
def yX0_take : MethodName := ⟨RX0, "take", "(LTableTower;I[J)I"⟩
def dkwX0_take_0 : List UInt8 := [44, 3, 42, 27, 182, 0, 30, 133, 80, 167, 0, 6, 78, 4, 172, 3, 172]
abbrev dktX0_take_0 : List UInt8 := dkwX0_take_0 ++ []
theorem dksX0_take_0 : cX0_take.data.toList.drop 0 = dktX0_take_0 := by decide +kernel
theorem dX0_take_0 : decode cX0_take 0 = .ok (.aload_n 2, 1) := dk_44 (dk_at dksX0_take_0 0 rfl rfl)
theorem dX0_take_1 : decode cX0_take 1 = .ok (.iconst 0, 1) := dk_3 (dk_at dksX0_take_0 1 rfl rfl)
theorem dX0_take_2 : decode cX0_take 2 = .ok (.aload_n 0, 1) := dk_42 (dk_at dksX0_take_0 2 rfl rfl)
theorem dX0_take_3 : decode cX0_take 3 = .ok (.iload_n 1, 1) := dk_27 (dk_at dksX0_take_0 3 rfl rfl)
theorem dX0_take_4 : decode cX0_take 4 = .ok (.invokevirtual 30, 3) := dk_182 0 30 (dk_at dksX0_take_0 4 rfl rfl)
theorem dX0_take_7 : decode cX0_take 7 = .ok (.i2l, 1) := dk_133 (dk_at dksX0_take_0 7 rfl rfl)
theorem dX0_take_8 : decode cX0_take 8 = .ok (.lastore, 1) := dk_80 (dk_at dksX0_take_0 8 rfl rfl)
theorem dX0_take_9 : decode cX0_take 9 = .ok (.goto 6, 3) := dk_167 0 6 (dk_at dksX0_take_0 9 rfl rfl)
theorem dX0_take_12 : decode cX0_take 12 = .ok (.astore_n 3, 1) := dk_78 (dk_at dksX0_take_0 12 rfl rfl)
theorem dX0_take_13 : decode cX0_take 13 = .ok (.iconst 1, 1) := dk_4 (dk_at dksX0_take_0 13 rfl rfl)
theorem dX0_take_14 : decode cX0_take 14 = .ok (.ireturn, 1) := dk_172 (dk_at dksX0_take_0 14 rfl rfl)
theorem dX0_take_15 : decode cX0_take 15 = .ok (.iconst 0, 1) := dk_3 (dk_at dksX0_take_0 15 rfl rfl)
theorem dX0_take_16 : decode cX0_take 16 = .ok (.ireturn, 1) := dk_172 (dk_at dksX0_take_0 16 rfl rfl)
abbrev cX0_change : ByteArray := method_9_code
def yX0_change : MethodName := ⟨RX0, "change", "(LTableTower;II[J)I"⟩
def dkwX0_change_1 : List UInt8 := [3, 172]
abbrev dktX0_change_1 : List UInt8 := dkwX0_change_1 ++ []
def dkwX0_change_0 : List UInt8 := [45, 3, 42, 27, 28, 182, 0, 33, 153, 0, 7, 10, 167, 0, 4, 9, 80, 167, 0, 7, 58, 4, 4, 172]
abbrev dktX0_change_0 : List UInt8 := dkwX0_change_0 ++ dktX0_change_1
theorem dksX0_change_0 : cX0_change.data.toList.drop 0 = dktX0_change_0 := by decide +kernel
theorem dksX0_change_1 : cX0_change.data.toList.drop 24 = dktX0_change_1 := dk_seg dksX0_change_0 24 rfl rfl
theorem dX0_change_0 : decode cX0_change 0 = .ok (.aload_n 3, 1) := dk_45 (dk_at dksX0_change_0 0 rfl rfl)
theorem dX0_change_1 : decode cX0_change 1 = .ok (.iconst 0, 1) := dk_3 (dk_at dksX0_change_0 1 rfl rfl)
theorem dX0_change_2 : decode cX0_change 2 = .ok (.aload_n 0, 1) := dk_42 (dk_at dksX0_change_0 2 rfl rfl)
theorem dX0_change_3 : decode cX0_change 3 = .ok (.iload_n 1, 1) := dk_27 (dk_at dksX0_change_0 3 rfl rfl)
theorem dX0_change_4 : decode cX0_change 4 = .ok (.iload_n 2, 1) := dk_28 (dk_at dksX0_change_0 4 rfl rfl)
theorem dX0_change_5 : decode cX0_change 5 = .ok (.invokevirtual 33, 3) := dk_182 0 33 (dk_at dksX0_change_0 5 rfl rfl)
theorem dX0_change_8 : decode cX0_change 8 = .ok (.ifCond .eq 7, 3) := dk_153 0 7 (dk_at dksX0_change_0 8 rfl rfl)
theorem dX0_change_11 : decode cX0_change 11 = .ok (.lconst 1, 1) := dk_10 (dk_at dksX0_change_0 11 rfl rfl)
theorem dX0_change_12 : decode cX0_change 12 = .ok (.goto 4, 3) := dk_167 0 4 (dk_at dksX0_change_0 12 rfl rfl)
theorem dX0_change_15 : decode cX0_change 15 = .ok (.lconst 0, 1) := dk_9 (dk_at dksX0_change_0 15 rfl rfl)
theorem dX0_change_16 : decode cX0_change 16 = .ok (.lastore, 1) := dk_80 (dk_at dksX0_change_0 16 rfl rfl)
theorem dX0_change_17 : decode cX0_change 17 = .ok (.goto 7, 3) := dk_167 0 7 (dk_at dksX0_change_0 17 rfl rfl)
theorem dX0_change_20 : decode cX0_change 20 = .ok (.astore 4, 2) := dk_58 4 (dk_at dksX0_change_0 20 rfl rfl)
theorem dX0_change_22 : decode cX0_change 22 = .ok (.iconst 1, 1) := dk_4 (dk_at dksX0_change_0 22 rfl rfl)
theorem dX0_change_23 : decode cX0_change 23 = .ok (.ireturn, 1) := dk_172 (dk_at dksX0_change_0 23 rfl rfl)
theorem dX0_change_24 : decode cX0_change 24 = .ok (.iconst 0, 1) := dk_3 (dk_at dksX0_change_1 0 rfl rfl)
theorem dX0_change_25 : decode cX0_change 25 = .ok (.ireturn, 1) := dk_172 (dk_at dksX0_change_1 1 rfl rfl)
abbrev cX0_wedge : ByteArray := method_10_code
def yX0_wedge : MethodName := ⟨RX0, "wedge", "(LTableTower;II[J)I"⟩
def dkwX0_wedge_0 : List UInt8 := [45, 3, 42, 27, 28, 182, 0, 37, 133, 80, 167, 0, 7, 58, 4, 4, 172, 3, 172]
abbrev dktX0_wedge_0 : List UInt8 := dkwX0_wedge_0 ++ []
theorem dksX0_wedge_0 : cX0_wedge.data.toList.drop 0 = dktX0_wedge_0 := by decide +kernel
theorem dX0_wedge_0 : decode cX0_wedge 0 = .ok (.aload_n 3, 1) := dk_45 (dk_at dksX0_wedge_0 0 rfl rfl)
theorem dX0_wedge_1 : decode cX0_wedge 1 = .ok (.iconst 0, 1) := dk_3 (dk_at dksX0_wedge_0 1 rfl rfl)
theorem dX0_wedge_2 : decode cX0_wedge 2 = .ok (.aload_n 0, 1) := dk_42 (dk_at dksX0_wedge_0 2 rfl rfl)
theorem dX0_wedge_3 : decode cX0_wedge 3 = .ok (.iload_n 1, 1) := dk_27 (dk_at dksX0_wedge_0 3 rfl rfl)
theorem dX0_wedge_4 : decode cX0_wedge 4 = .ok (.iload_n 2, 1) := dk_28 (dk_at dksX0_wedge_0 4 rfl rfl)
theorem dX0_wedge_5 : decode cX0_wedge 5 = .ok (.invokevirtual 37, 3) := dk_182 0 37 (dk_at dksX0_wedge_0 5 rfl rfl)
theorem dX0_wedge_8 : decode cX0_wedge 8 = .ok (.i2l, 1) := dk_133 (dk_at dksX0_wedge_0 8 rfl rfl)
theorem dX0_wedge_9 : decode cX0_wedge 9 = .ok (.lastore, 1) := dk_80 (dk_at dksX0_wedge_0 9 rfl rfl)
theorem dX0_wedge_10 : decode cX0_wedge 10 = .ok (.goto 7, 3) := dk_167 0 7 (dk_at dksX0_wedge_0 10 rfl rfl)
theorem dX0_wedge_13 : decode cX0_wedge 13 = .ok (.astore 4, 2) := dk_58 4 (dk_at dksX0_wedge_0 13 rfl rfl)
theorem dX0_wedge_15 : decode cX0_wedge 15 = .ok (.iconst 1, 1) := dk_4 (dk_at dksX0_wedge_0 15 rfl rfl)
theorem dX0_wedge_16 : decode cX0_wedge 16 = .ok (.ireturn, 1) := dk_172 (dk_at dksX0_wedge_0 16 rfl rfl)
theorem dX0_wedge_17 : decode cX0_wedge 17 = .ok (.iconst 0, 1) := dk_3 (dk_at dksX0_wedge_0 17 rfl rfl)
theorem dX0_wedge_18 : decode cX0_wedge 18 = .ok (.ireturn, 1) := dk_172 (dk_at dksX0_wedge_0 18 rfl rfl)
abbrev cX0_saw : ByteArray := method_11_code
def yX0_saw : MethodName := ⟨RX0, "saw", "(LTableTower;II[J)I"⟩
def dkwX0_saw_0 : List UInt8 := [45, 3, 42, 27, 28, 182, 0, 40, 133, 80, 167, 0, 7, 58, 4, 4, 172, 3, 172]
abbrev dktX0_saw_0 : List UInt8 := dkwX0_saw_0 ++ []
theorem dksX0_saw_0 : cX0_saw.data.toList.drop 0 = dktX0_saw_0 := by decide +kernel
theorem dX0_saw_0 : decode cX0_saw 0 = .ok (.aload_n 3, 1) := dk_45 (dk_at dksX0_saw_0 0 rfl rfl)
theorem dX0_saw_1 : decode cX0_saw 1 = .ok (.iconst 0, 1) := dk_3 (dk_at dksX0_saw_0 1 rfl rfl)
theorem dX0_saw_2 : decode cX0_saw 2 = .ok (.aload_n 0, 1) := dk_42 (dk_at dksX0_saw_0 2 rfl rfl)
theorem dX0_saw_3 : decode cX0_saw 3 = .ok (.iload_n 1, 1) := dk_27 (dk_at dksX0_saw_0 3 rfl rfl)
theorem dX0_saw_4 : decode cX0_saw 4 = .ok (.iload_n 2, 1) := dk_28 (dk_at dksX0_saw_0 4 rfl rfl)
theorem dX0_saw_5 : decode cX0_saw 5 = .ok (.invokevirtual 40, 3) := dk_182 0 40 (dk_at dksX0_saw_0 5 rfl rfl)
theorem dX0_saw_8 : decode cX0_saw 8 = .ok (.i2l, 1) := dk_133 (dk_at dksX0_saw_0 8 rfl rfl)
theorem dX0_saw_9 : decode cX0_saw 9 = .ok (.lastore, 1) := dk_80 (dk_at dksX0_saw_0 9 rfl rfl)
theorem dX0_saw_10 : decode cX0_saw 10 = .ok (.goto 7, 3) := dk_167 0 7 (dk_at dksX0_saw_0 10 rfl rfl)
theorem dX0_saw_13 : decode cX0_saw 13 = .ok (.astore 4, 2) := dk_58 4 (dk_at dksX0_saw_0 13 rfl rfl)
theorem dX0_saw_15 : decode cX0_saw 15 = .ok (.iconst 1, 1) := dk_4 (dk_at dksX0_saw_0 15 rfl rfl)
theorem dX0_saw_16 : decode cX0_saw 16 = .ok (.ireturn, 1) := dk_172 (dk_at dksX0_saw_0 16 rfl rfl)
theorem dX0_saw_17 : decode cX0_saw 17 = .ok (.iconst 0, 1) := dk_3 (dk_at dksX0_saw_0 17 rfl rfl)
theorem dX0_saw_18 : decode cX0_saw 18 = .ok (.ireturn, 1) := dk_172 (dk_at dksX0_saw_0 18 rfl rfl)
abbrev cX0_without : ByteArray := method_12_code
def yX0_without : MethodName := ⟨RX0, "without", "(LTableTower;I[J)I"⟩
def dkwX0_without_0 : List UInt8 := [44, 3, 42, 27, 182, 0, 43, 153, 0, 7, 10, 167, 0, 4, 9, 80, 167, 0, 6, 78, 4, 172, 3, 172]
abbrev dktX0_without_0 : List UInt8 := dkwX0_without_0 ++ []
theorem dksX0_without_0 : cX0_without.data.toList.drop 0 = dktX0_without_0 := by decide +kernel
theorem dX0_without_0 : decode cX0_without 0 = .ok (.aload_n 2, 1) := dk_44 (dk_at dksX0_without_0 0 rfl rfl)
theorem dX0_without_1 : decode cX0_without 1 = .ok (.iconst 0, 1) := dk_3 (dk_at dksX0_without_0 1 rfl rfl)
theorem dX0_without_2 : decode cX0_without 2 = .ok (.aload_n 0, 1) := dk_42 (dk_at dksX0_without_0 2 rfl rfl)
theorem dX0_without_3 : decode cX0_without 3 = .ok (.iload_n 1, 1) := dk_27 (dk_at dksX0_without_0 3 rfl rfl)
theorem dX0_without_4 : decode cX0_without 4 = .ok (.invokevirtual 43, 3) := dk_182 0 43 (dk_at dksX0_without_0 4 rfl rfl)
theorem dX0_without_7 : decode cX0_without 7 = .ok (.ifCond .eq 7, 3) := dk_153 0 7 (dk_at dksX0_without_0 7 rfl rfl)
theorem dX0_without_10 : decode cX0_without 10 = .ok (.lconst 1, 1) := dk_10 (dk_at dksX0_without_0 10 rfl rfl)
theorem dX0_without_11 : decode cX0_without 11 = .ok (.goto 4, 3) := dk_167 0 4 (dk_at dksX0_without_0 11 rfl rfl)
theorem dX0_without_14 : decode cX0_without 14 = .ok (.lconst 0, 1) := dk_9 (dk_at dksX0_without_0 14 rfl rfl)
theorem dX0_without_15 : decode cX0_without 15 = .ok (.lastore, 1) := dk_80 (dk_at dksX0_without_0 15 rfl rfl)
theorem dX0_without_16 : decode cX0_without 16 = .ok (.goto 6, 3) := dk_167 0 6 (dk_at dksX0_without_0 16 rfl rfl)
theorem dX0_without_19 : decode cX0_without 19 = .ok (.astore_n 3, 1) := dk_78 (dk_at dksX0_without_0 19 rfl rfl)
theorem dX0_without_20 : decode cX0_without 20 = .ok (.iconst 1, 1) := dk_4 (dk_at dksX0_without_0 20 rfl rfl)
theorem dX0_without_21 : decode cX0_without 21 = .ok (.ireturn, 1) := dk_172 (dk_at dksX0_without_0 21 rfl rfl)
theorem dX0_without_22 : decode cX0_without 22 = .ok (.iconst 0, 1) := dk_3 (dk_at dksX0_without_0 22 rfl rfl)
theorem dX0_without_23 : decode cX0_without 23 = .ok (.ireturn, 1) := dk_172 (dk_at dksX0_without_0 23 rfl rfl)
abbrev cX0_most : ByteArray := method_13_code
def yX0_most : MethodName := ⟨RX0, "most", "(LTableTower;I[J)I"⟩
def dkwX0_most_0 : List UInt8 := [44, 3, 42, 27, 182, 0, 47, 133, 80, 167, 0, 6, 78, 4, 172, 3, 172]
abbrev dktX0_most_0 : List UInt8 := dkwX0_most_0 ++ []
theorem dksX0_most_0 : cX0_most.data.toList.drop 0 = dktX0_most_0 := by decide +kernel
theorem dX0_most_0 : decode cX0_most 0 = .ok (.aload_n 2, 1) := dk_44 (dk_at dksX0_most_0 0 rfl rfl)
theorem dX0_most_1 : decode cX0_most 1 = .ok (.iconst 0, 1) := dk_3 (dk_at dksX0_most_0 1 rfl rfl)
theorem dX0_most_2 : decode cX0_most 2 = .ok (.aload_n 0, 1) := dk_42 (dk_at dksX0_most_0 2 rfl rfl)
theorem dX0_most_3 : decode cX0_most 3 = .ok (.iload_n 1, 1) := dk_27 (dk_at dksX0_most_0 3 rfl rfl)
theorem dX0_most_4 : decode cX0_most 4 = .ok (.invokevirtual 47, 3) := dk_182 0 47 (dk_at dksX0_most_0 4 rfl rfl)
theorem dX0_most_7 : decode cX0_most 7 = .ok (.i2l, 1) := dk_133 (dk_at dksX0_most_0 7 rfl rfl)
theorem dX0_most_8 : decode cX0_most 8 = .ok (.lastore, 1) := dk_80 (dk_at dksX0_most_0 8 rfl rfl)
theorem dX0_most_9 : decode cX0_most 9 = .ok (.goto 6, 3) := dk_167 0 6 (dk_at dksX0_most_0 9 rfl rfl)
theorem dX0_most_12 : decode cX0_most 12 = .ok (.astore_n 3, 1) := dk_78 (dk_at dksX0_most_0 12 rfl rfl)
theorem dX0_most_13 : decode cX0_most 13 = .ok (.iconst 1, 1) := dk_4 (dk_at dksX0_most_0 13 rfl rfl)
theorem dX0_most_14 : decode cX0_most 14 = .ok (.ireturn, 1) := dk_172 (dk_at dksX0_most_0 14 rfl rfl)
theorem dX0_most_15 : decode cX0_most 15 = .ok (.iconst 0, 1) := dk_3 (dk_at dksX0_most_0 15 rfl rfl)
theorem dX0_most_16 : decode cX0_most 16 = .ok (.ireturn, 1) := dk_172 (dk_at dksX0_most_0 16 rfl rfl)
abbrev cX0_row : ByteArray := method_14_code
def yX0_row : MethodName := ⟨RX0, "row", "(LTableTower;I[J)I"⟩
def dkwX0_row_0 : List UInt8 := [44, 3, 42, 27, 182, 0, 50, 133, 80, 167, 0, 6, 78, 4, 172, 3, 172]
abbrev dktX0_row_0 : List UInt8 := dkwX0_row_0 ++ []
theorem dksX0_row_0 : cX0_row.data.toList.drop 0 = dktX0_row_0 := by decide +kernel
theorem dX0_row_0 : decode cX0_row 0 = .ok (.aload_n 2, 1) := dk_44 (dk_at dksX0_row_0 0 rfl rfl)
theorem dX0_row_1 : decode cX0_row 1 = .ok (.iconst 0, 1) := dk_3 (dk_at dksX0_row_0 1 rfl rfl)
theorem dX0_row_2 : decode cX0_row 2 = .ok (.aload_n 0, 1) := dk_42 (dk_at dksX0_row_0 2 rfl rfl)
theorem dX0_row_3 : decode cX0_row 3 = .ok (.iload_n 1, 1) := dk_27 (dk_at dksX0_row_0 3 rfl rfl)
theorem dX0_row_4 : decode cX0_row 4 = .ok (.invokevirtual 50, 3) := dk_182 0 50 (dk_at dksX0_row_0 4 rfl rfl)
theorem dX0_row_7 : decode cX0_row 7 = .ok (.i2l, 1) := dk_133 (dk_at dksX0_row_0 7 rfl rfl)
theorem dX0_row_8 : decode cX0_row 8 = .ok (.lastore, 1) := dk_80 (dk_at dksX0_row_0 8 rfl rfl)
theorem dX0_row_9 : decode cX0_row 9 = .ok (.goto 6, 3) := dk_167 0 6 (dk_at dksX0_row_0 9 rfl rfl)
theorem dX0_row_12 : decode cX0_row 12 = .ok (.astore_n 3, 1) := dk_78 (dk_at dksX0_row_0 12 rfl rfl)
theorem dX0_row_13 : decode cX0_row 13 = .ok (.iconst 1, 1) := dk_4 (dk_at dksX0_row_0 13 rfl rfl)
theorem dX0_row_14 : decode cX0_row 14 = .ok (.ireturn, 1) := dk_172 (dk_at dksX0_row_0 14 rfl rfl)
theorem dX0_row_15 : decode cX0_row 15 = .ok (.iconst 0, 1) := dk_3 (dk_at dksX0_row_0 15 rfl rfl)
theorem dX0_row_16 : decode cX0_row 16 = .ok (.ireturn, 1) := dk_172 (dk_at dksX0_row_0 16 rfl rfl)
abbrev cX0_marry : ByteArray := method_15_code
def yX0_marry : MethodName := ⟨RX0, "marry", "(LTableTower;II[J)I"⟩
def dkwX0_marry_1 : List UInt8 := [58, 4, 5, 172, 3, 172]
abbrev dktX0_marry_1 : List UInt8 := dkwX0_marry_1 ++ []
def dkwX0_marry_0 : List UInt8 := [45, 3, 42, 27, 28, 182, 0, 53, 153, 0, 7, 10, 167, 0, 4, 9, 80, 167, 0, 11, 58, 4, 4, 172]
abbrev dktX0_marry_0 : List UInt8 := dkwX0_marry_0 ++ dktX0_marry_1
theorem dksX0_marry_0 : cX0_marry.data.toList.drop 0 = dktX0_marry_0 := by decide +kernel
theorem dksX0_marry_1 : cX0_marry.data.toList.drop 24 = dktX0_marry_1 := dk_seg dksX0_marry_0 24 rfl rfl
theorem dX0_marry_0 : decode cX0_marry 0 = .ok (.aload_n 3, 1) := dk_45 (dk_at dksX0_marry_0 0 rfl rfl)
theorem dX0_marry_1 : decode cX0_marry 1 = .ok (.iconst 0, 1) := dk_3 (dk_at dksX0_marry_0 1 rfl rfl)
theorem dX0_marry_2 : decode cX0_marry 2 = .ok (.aload_n 0, 1) := dk_42 (dk_at dksX0_marry_0 2 rfl rfl)
theorem dX0_marry_3 : decode cX0_marry 3 = .ok (.iload_n 1, 1) := dk_27 (dk_at dksX0_marry_0 3 rfl rfl)
theorem dX0_marry_4 : decode cX0_marry 4 = .ok (.iload_n 2, 1) := dk_28 (dk_at dksX0_marry_0 4 rfl rfl)
theorem dX0_marry_5 : decode cX0_marry 5 = .ok (.invokevirtual 53, 3) := dk_182 0 53 (dk_at dksX0_marry_0 5 rfl rfl)
theorem dX0_marry_8 : decode cX0_marry 8 = .ok (.ifCond .eq 7, 3) := dk_153 0 7 (dk_at dksX0_marry_0 8 rfl rfl)
theorem dX0_marry_11 : decode cX0_marry 11 = .ok (.lconst 1, 1) := dk_10 (dk_at dksX0_marry_0 11 rfl rfl)
theorem dX0_marry_12 : decode cX0_marry 12 = .ok (.goto 4, 3) := dk_167 0 4 (dk_at dksX0_marry_0 12 rfl rfl)
theorem dX0_marry_15 : decode cX0_marry 15 = .ok (.lconst 0, 1) := dk_9 (dk_at dksX0_marry_0 15 rfl rfl)
theorem dX0_marry_16 : decode cX0_marry 16 = .ok (.lastore, 1) := dk_80 (dk_at dksX0_marry_0 16 rfl rfl)
theorem dX0_marry_17 : decode cX0_marry 17 = .ok (.goto 11, 3) := dk_167 0 11 (dk_at dksX0_marry_0 17 rfl rfl)
theorem dX0_marry_20 : decode cX0_marry 20 = .ok (.astore 4, 2) := dk_58 4 (dk_at dksX0_marry_0 20 rfl rfl)
theorem dX0_marry_22 : decode cX0_marry 22 = .ok (.iconst 1, 1) := dk_4 (dk_at dksX0_marry_0 22 rfl rfl)
theorem dX0_marry_23 : decode cX0_marry 23 = .ok (.ireturn, 1) := dk_172 (dk_at dksX0_marry_0 23 rfl rfl)
theorem dX0_marry_24 : decode cX0_marry 24 = .ok (.astore 4, 2) := dk_58 4 (dk_at dksX0_marry_1 0 rfl rfl)
theorem dX0_marry_26 : decode cX0_marry 26 = .ok (.iconst 2, 1) := dk_5 (dk_at dksX0_marry_1 2 rfl rfl)
theorem dX0_marry_27 : decode cX0_marry 27 = .ok (.ireturn, 1) := dk_172 (dk_at dksX0_marry_1 3 rfl rfl)
theorem dX0_marry_28 : decode cX0_marry 28 = .ok (.iconst 0, 1) := dk_3 (dk_at dksX0_marry_1 4 rfl rfl)
theorem dX0_marry_29 : decode cX0_marry 29 = .ok (.ireturn, 1) := dk_172 (dk_at dksX0_marry_1 5 rfl rfl)
abbrev cX0_nod : ByteArray := method_16_code
def yX0_nod : MethodName := ⟨RX0, "nod", "(LTableTower;II[J)I"⟩
def dkwX0_nod_0 : List UInt8 := [45, 3, 42, 27, 28, 182, 0, 56, 133, 80, 167, 0, 11, 58, 4, 4, 172, 58, 4, 5, 172, 3, 172]
abbrev dktX0_nod_0 : List UInt8 := dkwX0_nod_0 ++ []
theorem dksX0_nod_0 : cX0_nod.data.toList.drop 0 = dktX0_nod_0 := by decide +kernel
theorem dX0_nod_0 : decode cX0_nod 0 = .ok (.aload_n 3, 1) := dk_45 (dk_at dksX0_nod_0 0 rfl rfl)
theorem dX0_nod_1 : decode cX0_nod 1 = .ok (.iconst 0, 1) := dk_3 (dk_at dksX0_nod_0 1 rfl rfl)
theorem dX0_nod_2 : decode cX0_nod 2 = .ok (.aload_n 0, 1) := dk_42 (dk_at dksX0_nod_0 2 rfl rfl)
theorem dX0_nod_3 : decode cX0_nod 3 = .ok (.iload_n 1, 1) := dk_27 (dk_at dksX0_nod_0 3 rfl rfl)
theorem dX0_nod_4 : decode cX0_nod 4 = .ok (.iload_n 2, 1) := dk_28 (dk_at dksX0_nod_0 4 rfl rfl)
theorem dX0_nod_5 : decode cX0_nod 5 = .ok (.invokevirtual 56, 3) := dk_182 0 56 (dk_at dksX0_nod_0 5 rfl rfl)
theorem dX0_nod_8 : decode cX0_nod 8 = .ok (.i2l, 1) := dk_133 (dk_at dksX0_nod_0 8 rfl rfl)
theorem dX0_nod_9 : decode cX0_nod 9 = .ok (.lastore, 1) := dk_80 (dk_at dksX0_nod_0 9 rfl rfl)
theorem dX0_nod_10 : decode cX0_nod 10 = .ok (.goto 11, 3) := dk_167 0 11 (dk_at dksX0_nod_0 10 rfl rfl)
theorem dX0_nod_13 : decode cX0_nod 13 = .ok (.astore 4, 2) := dk_58 4 (dk_at dksX0_nod_0 13 rfl rfl)
theorem dX0_nod_15 : decode cX0_nod 15 = .ok (.iconst 1, 1) := dk_4 (dk_at dksX0_nod_0 15 rfl rfl)
theorem dX0_nod_16 : decode cX0_nod 16 = .ok (.ireturn, 1) := dk_172 (dk_at dksX0_nod_0 16 rfl rfl)
theorem dX0_nod_17 : decode cX0_nod 17 = .ok (.astore 4, 2) := dk_58 4 (dk_at dksX0_nod_0 17 rfl rfl)
theorem dX0_nod_19 : decode cX0_nod 19 = .ok (.iconst 2, 1) := dk_5 (dk_at dksX0_nod_0 19 rfl rfl)
theorem dX0_nod_20 : decode cX0_nod 20 = .ok (.ireturn, 1) := dk_172 (dk_at dksX0_nod_0 20 rfl rfl)
theorem dX0_nod_21 : decode cX0_nod 21 = .ok (.iconst 0, 1) := dk_3 (dk_at dksX0_nod_0 21 rfl rfl)
theorem dX0_nod_22 : decode cX0_nod 22 = .ok (.ireturn, 1) := dk_172 (dk_at dksX0_nod_0 22 rfl rfl)
abbrev cX0_out : ByteArray := method_17_code
def yX0_out : MethodName := ⟨RX0, "out", "(LTableTower;I[J)I"⟩
def dkwX0_out_0 : List UInt8 := [44, 3, 42, 27, 182, 0, 59, 133, 80, 167, 0, 6, 78, 4, 172, 3, 172]
abbrev dktX0_out_0 : List UInt8 := dkwX0_out_0 ++ []
theorem dksX0_out_0 : cX0_out.data.toList.drop 0 = dktX0_out_0 := by decide +kernel
theorem dX0_out_0 : decode cX0_out 0 = .ok (.aload_n 2, 1) := dk_44 (dk_at dksX0_out_0 0 rfl rfl)
theorem dX0_out_1 : decode cX0_out 1 = .ok (.iconst 0, 1) := dk_3 (dk_at dksX0_out_0 1 rfl rfl)
theorem dX0_out_2 : decode cX0_out 2 = .ok (.aload_n 0, 1) := dk_42 (dk_at dksX0_out_0 2 rfl rfl)
theorem dX0_out_3 : decode cX0_out 3 = .ok (.iload_n 1, 1) := dk_27 (dk_at dksX0_out_0 3 rfl rfl)
theorem dX0_out_4 : decode cX0_out 4 = .ok (.invokevirtual 59, 3) := dk_182 0 59 (dk_at dksX0_out_0 4 rfl rfl)
theorem dX0_out_7 : decode cX0_out 7 = .ok (.i2l, 1) := dk_133 (dk_at dksX0_out_0 7 rfl rfl)
theorem dX0_out_8 : decode cX0_out 8 = .ok (.lastore, 1) := dk_80 (dk_at dksX0_out_0 8 rfl rfl)
theorem dX0_out_9 : decode cX0_out 9 = .ok (.goto 6, 3) := dk_167 0 6 (dk_at dksX0_out_0 9 rfl rfl)
theorem dX0_out_12 : decode cX0_out 12 = .ok (.astore_n 3, 1) := dk_78 (dk_at dksX0_out_0 12 rfl rfl)
theorem dX0_out_13 : decode cX0_out 13 = .ok (.iconst 1, 1) := dk_4 (dk_at dksX0_out_0 13 rfl rfl)
theorem dX0_out_14 : decode cX0_out 14 = .ok (.ireturn, 1) := dk_172 (dk_at dksX0_out_0 14 rfl rfl)
theorem dX0_out_15 : decode cX0_out 15 = .ok (.iconst 0, 1) := dk_3 (dk_at dksX0_out_0 15 rfl rfl)
theorem dX0_out_16 : decode cX0_out 16 = .ok (.ireturn, 1) := dk_172 (dk_at dksX0_out_0 16 rfl rfl)
abbrev cX0_lifted : ByteArray := method_18_code
def yX0_lifted : MethodName := ⟨RX0, "lifted", "(LTableTower;II[J)I"⟩
def dkwX0_lifted_0 : List UInt8 := [45, 3, 42, 27, 28, 182, 0, 62, 80, 167, 0, 7, 58, 4, 4, 172, 3, 172]
abbrev dktX0_lifted_0 : List UInt8 := dkwX0_lifted_0 ++ []
theorem dksX0_lifted_0 : cX0_lifted.data.toList.drop 0 = dktX0_lifted_0 := by decide +kernel
theorem dX0_lifted_0 : decode cX0_lifted 0 = .ok (.aload_n 3, 1) := dk_45 (dk_at dksX0_lifted_0 0 rfl rfl)
theorem dX0_lifted_1 : decode cX0_lifted 1 = .ok (.iconst 0, 1) := dk_3 (dk_at dksX0_lifted_0 1 rfl rfl)
theorem dX0_lifted_2 : decode cX0_lifted 2 = .ok (.aload_n 0, 1) := dk_42 (dk_at dksX0_lifted_0 2 rfl rfl)
theorem dX0_lifted_3 : decode cX0_lifted 3 = .ok (.iload_n 1, 1) := dk_27 (dk_at dksX0_lifted_0 3 rfl rfl)
theorem dX0_lifted_4 : decode cX0_lifted 4 = .ok (.iload_n 2, 1) := dk_28 (dk_at dksX0_lifted_0 4 rfl rfl)
theorem dX0_lifted_5 : decode cX0_lifted 5 = .ok (.invokevirtual 62, 3) := dk_182 0 62 (dk_at dksX0_lifted_0 5 rfl rfl)
theorem dX0_lifted_8 : decode cX0_lifted 8 = .ok (.lastore, 1) := dk_80 (dk_at dksX0_lifted_0 8 rfl rfl)
theorem dX0_lifted_9 : decode cX0_lifted 9 = .ok (.goto 7, 3) := dk_167 0 7 (dk_at dksX0_lifted_0 9 rfl rfl)
theorem dX0_lifted_12 : decode cX0_lifted 12 = .ok (.astore 4, 2) := dk_58 4 (dk_at dksX0_lifted_0 12 rfl rfl)
theorem dX0_lifted_14 : decode cX0_lifted 14 = .ok (.iconst 1, 1) := dk_4 (dk_at dksX0_lifted_0 14 rfl rfl)
theorem dX0_lifted_15 : decode cX0_lifted 15 = .ok (.ireturn, 1) := dk_172 (dk_at dksX0_lifted_0 15 rfl rfl)
theorem dX0_lifted_16 : decode cX0_lifted 16 = .ok (.iconst 0, 1) := dk_3 (dk_at dksX0_lifted_0 16 rfl rfl)
theorem dX0_lifted_17 : decode cX0_lifted 17 = .ok (.ireturn, 1) := dk_172 (dk_at dksX0_lifted_0 17 rfl rfl)
abbrev cX0_slack : ByteArray := method_19_code
def yX0_slack : MethodName := ⟨RX0, "slack", "(LTableTower;I[J)I"⟩
def dkwX0_slack_0 : List UInt8 := [44, 3, 42, 27, 182, 0, 66, 133, 80, 167, 0, 6, 78, 4, 172, 3, 172]
abbrev dktX0_slack_0 : List UInt8 := dkwX0_slack_0 ++ []
theorem dksX0_slack_0 : cX0_slack.data.toList.drop 0 = dktX0_slack_0 := by decide +kernel
theorem dX0_slack_0 : decode cX0_slack 0 = .ok (.aload_n 2, 1) := dk_44 (dk_at dksX0_slack_0 0 rfl rfl)
theorem dX0_slack_1 : decode cX0_slack 1 = .ok (.iconst 0, 1) := dk_3 (dk_at dksX0_slack_0 1 rfl rfl)
theorem dX0_slack_2 : decode cX0_slack 2 = .ok (.aload_n 0, 1) := dk_42 (dk_at dksX0_slack_0 2 rfl rfl)
theorem dX0_slack_3 : decode cX0_slack 3 = .ok (.iload_n 1, 1) := dk_27 (dk_at dksX0_slack_0 3 rfl rfl)
theorem dX0_slack_4 : decode cX0_slack 4 = .ok (.invokevirtual 66, 3) := dk_182 0 66 (dk_at dksX0_slack_0 4 rfl rfl)
theorem dX0_slack_7 : decode cX0_slack 7 = .ok (.i2l, 1) := dk_133 (dk_at dksX0_slack_0 7 rfl rfl)
theorem dX0_slack_8 : decode cX0_slack 8 = .ok (.lastore, 1) := dk_80 (dk_at dksX0_slack_0 8 rfl rfl)
theorem dX0_slack_9 : decode cX0_slack 9 = .ok (.goto 6, 3) := dk_167 0 6 (dk_at dksX0_slack_0 9 rfl rfl)
theorem dX0_slack_12 : decode cX0_slack 12 = .ok (.astore_n 3, 1) := dk_78 (dk_at dksX0_slack_0 12 rfl rfl)
theorem dX0_slack_13 : decode cX0_slack 13 = .ok (.iconst 1, 1) := dk_4 (dk_at dksX0_slack_0 13 rfl rfl)
theorem dX0_slack_14 : decode cX0_slack 14 = .ok (.ireturn, 1) := dk_172 (dk_at dksX0_slack_0 14 rfl rfl)
theorem dX0_slack_15 : decode cX0_slack 15 = .ok (.iconst 0, 1) := dk_3 (dk_at dksX0_slack_0 15 rfl rfl)
theorem dX0_slack_16 : decode cX0_slack 16 = .ok (.ireturn, 1) := dk_172 (dk_at dksX0_slack_0 16 rfl rfl)
abbrev cX0_broken : ByteArray := method_20_code
def yX0_broken : MethodName := ⟨RX0, "broken", "(LTableTower;I[J)I"⟩
def dkwX0_broken_0 : List UInt8 := [44, 3, 42, 27, 182, 0, 69, 133, 80, 167, 0, 6, 78, 4, 172, 3, 172]
abbrev dktX0_broken_0 : List UInt8 := dkwX0_broken_0 ++ []
theorem dksX0_broken_0 : cX0_broken.data.toList.drop 0 = dktX0_broken_0 := by decide +kernel
theorem dX0_broken_0 : decode cX0_broken 0 = .ok (.aload_n 2, 1) := dk_44 (dk_at dksX0_broken_0 0 rfl rfl)
theorem dX0_broken_1 : decode cX0_broken 1 = .ok (.iconst 0, 1) := dk_3 (dk_at dksX0_broken_0 1 rfl rfl)
theorem dX0_broken_2 : decode cX0_broken 2 = .ok (.aload_n 0, 1) := dk_42 (dk_at dksX0_broken_0 2 rfl rfl)
theorem dX0_broken_3 : decode cX0_broken 3 = .ok (.iload_n 1, 1) := dk_27 (dk_at dksX0_broken_0 3 rfl rfl)
theorem dX0_broken_4 : decode cX0_broken 4 = .ok (.invokevirtual 69, 3) := dk_182 0 69 (dk_at dksX0_broken_0 4 rfl rfl)
theorem dX0_broken_7 : decode cX0_broken 7 = .ok (.i2l, 1) := dk_133 (dk_at dksX0_broken_0 7 rfl rfl)
theorem dX0_broken_8 : decode cX0_broken 8 = .ok (.lastore, 1) := dk_80 (dk_at dksX0_broken_0 8 rfl rfl)
theorem dX0_broken_9 : decode cX0_broken 9 = .ok (.goto 6, 3) := dk_167 0 6 (dk_at dksX0_broken_0 9 rfl rfl)
theorem dX0_broken_12 : decode cX0_broken 12 = .ok (.astore_n 3, 1) := dk_78 (dk_at dksX0_broken_0 12 rfl rfl)
theorem dX0_broken_13 : decode cX0_broken 13 = .ok (.iconst 1, 1) := dk_4 (dk_at dksX0_broken_0 13 rfl rfl)
theorem dX0_broken_14 : decode cX0_broken 14 = .ok (.ireturn, 1) := dk_172 (dk_at dksX0_broken_0 14 rfl rfl)
theorem dX0_broken_15 : decode cX0_broken 15 = .ok (.iconst 0, 1) := dk_3 (dk_at dksX0_broken_0 15 rfl rfl)
theorem dX0_broken_16 : decode cX0_broken 16 = .ok (.ireturn, 1) := dk_172 (dk_at dksX0_broken_0 16 rfl rfl)
abbrev cX0_top : ByteArray := method_21_code
def yX0_top : MethodName := ⟨RX0, "top", "(LTableTower;I[J)I"⟩
def dkwX0_top_0 : List UInt8 := [44, 3, 42, 27, 182, 0, 72, 133, 80, 167, 0, 6, 78, 4, 172, 3, 172]
abbrev dktX0_top_0 : List UInt8 := dkwX0_top_0 ++ []
theorem dksX0_top_0 : cX0_top.data.toList.drop 0 = dktX0_top_0 := by decide +kernel
theorem dX0_top_0 : decode cX0_top 0 = .ok (.aload_n 2, 1) := dk_44 (dk_at dksX0_top_0 0 rfl rfl)
theorem dX0_top_1 : decode cX0_top 1 = .ok (.iconst 0, 1) := dk_3 (dk_at dksX0_top_0 1 rfl rfl)
theorem dX0_top_2 : decode cX0_top 2 = .ok (.aload_n 0, 1) := dk_42 (dk_at dksX0_top_0 2 rfl rfl)
theorem dX0_top_3 : decode cX0_top 3 = .ok (.iload_n 1, 1) := dk_27 (dk_at dksX0_top_0 3 rfl rfl)
theorem dX0_top_4 : decode cX0_top 4 = .ok (.invokevirtual 72, 3) := dk_182 0 72 (dk_at dksX0_top_0 4 rfl rfl)
theorem dX0_top_7 : decode cX0_top 7 = .ok (.i2l, 1) := dk_133 (dk_at dksX0_top_0 7 rfl rfl)
theorem dX0_top_8 : decode cX0_top 8 = .ok (.lastore, 1) := dk_80 (dk_at dksX0_top_0 8 rfl rfl)
theorem dX0_top_9 : decode cX0_top 9 = .ok (.goto 6, 3) := dk_167 0 6 (dk_at dksX0_top_0 9 rfl rfl)
theorem dX0_top_12 : decode cX0_top 12 = .ok (.astore_n 3, 1) := dk_78 (dk_at dksX0_top_0 12 rfl rfl)
theorem dX0_top_13 : decode cX0_top 13 = .ok (.iconst 1, 1) := dk_4 (dk_at dksX0_top_0 13 rfl rfl)
theorem dX0_top_14 : decode cX0_top 14 = .ok (.ireturn, 1) := dk_172 (dk_at dksX0_top_0 14 rfl rfl)
theorem dX0_top_15 : decode cX0_top 15 = .ok (.iconst 0, 1) := dk_3 (dk_at dksX0_top_0 15 rfl rfl)
theorem dX0_top_16 : decode cX0_top 16 = .ok (.ireturn, 1) := dk_172 (dk_at dksX0_top_0 16 rfl rfl)
abbrev cX0_which : ByteArray := method_22_code
def yX0_which : MethodName := ⟨RX0, "which", "(LTableTower;I[J)I"⟩
def dkwX0_which_0 : List UInt8 := [44, 3, 42, 27, 182, 0, 75, 133, 80, 167, 0, 6, 78, 4, 172, 3, 172]
abbrev dktX0_which_0 : List UInt8 := dkwX0_which_0 ++ []
theorem dksX0_which_0 : cX0_which.data.toList.drop 0 = dktX0_which_0 := by decide +kernel
theorem dX0_which_0 : decode cX0_which 0 = .ok (.aload_n 2, 1) := dk_44 (dk_at dksX0_which_0 0 rfl rfl)
theorem dX0_which_1 : decode cX0_which 1 = .ok (.iconst 0, 1) := dk_3 (dk_at dksX0_which_0 1 rfl rfl)
theorem dX0_which_2 : decode cX0_which 2 = .ok (.aload_n 0, 1) := dk_42 (dk_at dksX0_which_0 2 rfl rfl)
theorem dX0_which_3 : decode cX0_which 3 = .ok (.iload_n 1, 1) := dk_27 (dk_at dksX0_which_0 3 rfl rfl)
theorem dX0_which_4 : decode cX0_which 4 = .ok (.invokevirtual 75, 3) := dk_182 0 75 (dk_at dksX0_which_0 4 rfl rfl)
theorem dX0_which_7 : decode cX0_which 7 = .ok (.i2l, 1) := dk_133 (dk_at dksX0_which_0 7 rfl rfl)
theorem dX0_which_8 : decode cX0_which 8 = .ok (.lastore, 1) := dk_80 (dk_at dksX0_which_0 8 rfl rfl)
theorem dX0_which_9 : decode cX0_which 9 = .ok (.goto 6, 3) := dk_167 0 6 (dk_at dksX0_which_0 9 rfl rfl)
theorem dX0_which_12 : decode cX0_which 12 = .ok (.astore_n 3, 1) := dk_78 (dk_at dksX0_which_0 12 rfl rfl)
theorem dX0_which_13 : decode cX0_which 13 = .ok (.iconst 1, 1) := dk_4 (dk_at dksX0_which_0 13 rfl rfl)
theorem dX0_which_14 : decode cX0_which 14 = .ok (.ireturn, 1) := dk_172 (dk_at dksX0_which_0 14 rfl rfl)
theorem dX0_which_15 : decode cX0_which 15 = .ok (.iconst 0, 1) := dk_3 (dk_at dksX0_which_0 15 rfl rfl)
theorem dX0_which_16 : decode cX0_which 16 = .ok (.ireturn, 1) := dk_172 (dk_at dksX0_which_0 16 rfl rfl)
abbrev cX0_game : ByteArray := method_23_code
def yX0_game : MethodName := ⟨RX0, "game", "(LTableTower;I[J)I"⟩
def dkwX0_game_0 : List UInt8 := [44, 3, 42, 27, 182, 0, 78, 133, 80, 167, 0, 6, 78, 4, 172, 3, 172]
abbrev dktX0_game_0 : List UInt8 := dkwX0_game_0 ++ []
theorem dksX0_game_0 : cX0_game.data.toList.drop 0 = dktX0_game_0 := by decide +kernel
theorem dX0_game_0 : decode cX0_game 0 = .ok (.aload_n 2, 1) := dk_44 (dk_at dksX0_game_0 0 rfl rfl)
theorem dX0_game_1 : decode cX0_game 1 = .ok (.iconst 0, 1) := dk_3 (dk_at dksX0_game_0 1 rfl rfl)
theorem dX0_game_2 : decode cX0_game 2 = .ok (.aload_n 0, 1) := dk_42 (dk_at dksX0_game_0 2 rfl rfl)
theorem dX0_game_3 : decode cX0_game 3 = .ok (.iload_n 1, 1) := dk_27 (dk_at dksX0_game_0 3 rfl rfl)
theorem dX0_game_4 : decode cX0_game 4 = .ok (.invokevirtual 78, 3) := dk_182 0 78 (dk_at dksX0_game_0 4 rfl rfl)
theorem dX0_game_7 : decode cX0_game 7 = .ok (.i2l, 1) := dk_133 (dk_at dksX0_game_0 7 rfl rfl)
theorem dX0_game_8 : decode cX0_game 8 = .ok (.lastore, 1) := dk_80 (dk_at dksX0_game_0 8 rfl rfl)
theorem dX0_game_9 : decode cX0_game 9 = .ok (.goto 6, 3) := dk_167 0 6 (dk_at dksX0_game_0 9 rfl rfl)
theorem dX0_game_12 : decode cX0_game 12 = .ok (.astore_n 3, 1) := dk_78 (dk_at dksX0_game_0 12 rfl rfl)
theorem dX0_game_13 : decode cX0_game 13 = .ok (.iconst 1, 1) := dk_4 (dk_at dksX0_game_0 13 rfl rfl)
theorem dX0_game_14 : decode cX0_game 14 = .ok (.ireturn, 1) := dk_172 (dk_at dksX0_game_0 14 rfl rfl)
theorem dX0_game_15 : decode cX0_game 15 = .ok (.iconst 0, 1) := dk_3 (dk_at dksX0_game_0 15 rfl rfl)
theorem dX0_game_16 : decode cX0_game 16 = .ok (.ireturn, 1) := dk_172 (dk_at dksX0_game_0 16 rfl rfl)
abbrev cX0_decades : ByteArray := method_24_code
def yX0_decades : MethodName := ⟨RX0, "decades", "(LTableTower;III[J)I"⟩
def dkwX0_decades_1 : List UInt8 := [172]
abbrev dktX0_decades_1 : List UInt8 := dkwX0_decades_1 ++ []
def dkwX0_decades_0 : List UInt8 := [25, 4, 3, 42, 27, 28, 29, 182, 0, 81, 133, 80, 167, 0, 11, 58, 5, 4, 172, 58, 5, 5, 172, 3]
abbrev dktX0_decades_0 : List UInt8 := dkwX0_decades_0 ++ dktX0_decades_1
theorem dksX0_decades_0 : cX0_decades.data.toList.drop 0 = dktX0_decades_0 := by decide +kernel
theorem dksX0_decades_1 : cX0_decades.data.toList.drop 24 = dktX0_decades_1 := dk_seg dksX0_decades_0 24 rfl rfl
theorem dX0_decades_0 : decode cX0_decades 0 = .ok (.aload 4, 2) := dk_25 4 (dk_at dksX0_decades_0 0 rfl rfl)
theorem dX0_decades_2 : decode cX0_decades 2 = .ok (.iconst 0, 1) := dk_3 (dk_at dksX0_decades_0 2 rfl rfl)
theorem dX0_decades_3 : decode cX0_decades 3 = .ok (.aload_n 0, 1) := dk_42 (dk_at dksX0_decades_0 3 rfl rfl)
theorem dX0_decades_4 : decode cX0_decades 4 = .ok (.iload_n 1, 1) := dk_27 (dk_at dksX0_decades_0 4 rfl rfl)
theorem dX0_decades_5 : decode cX0_decades 5 = .ok (.iload_n 2, 1) := dk_28 (dk_at dksX0_decades_0 5 rfl rfl)
theorem dX0_decades_6 : decode cX0_decades 6 = .ok (.iload_n 3, 1) := dk_29 (dk_at dksX0_decades_0 6 rfl rfl)
theorem dX0_decades_7 : decode cX0_decades 7 = .ok (.invokevirtual 81, 3) := dk_182 0 81 (dk_at dksX0_decades_0 7 rfl rfl)
theorem dX0_decades_10 : decode cX0_decades 10 = .ok (.i2l, 1) := dk_133 (dk_at dksX0_decades_0 10 rfl rfl)
theorem dX0_decades_11 : decode cX0_decades 11 = .ok (.lastore, 1) := dk_80 (dk_at dksX0_decades_0 11 rfl rfl)
theorem dX0_decades_12 : decode cX0_decades 12 = .ok (.goto 11, 3) := dk_167 0 11 (dk_at dksX0_decades_0 12 rfl rfl)
theorem dX0_decades_15 : decode cX0_decades 15 = .ok (.astore 5, 2) := dk_58 5 (dk_at dksX0_decades_0 15 rfl rfl)
theorem dX0_decades_17 : decode cX0_decades 17 = .ok (.iconst 1, 1) := dk_4 (dk_at dksX0_decades_0 17 rfl rfl)
theorem dX0_decades_18 : decode cX0_decades 18 = .ok (.ireturn, 1) := dk_172 (dk_at dksX0_decades_0 18 rfl rfl)
theorem dX0_decades_19 : decode cX0_decades 19 = .ok (.astore 5, 2) := dk_58 5 (dk_at dksX0_decades_0 19 rfl rfl)
theorem dX0_decades_21 : decode cX0_decades 21 = .ok (.iconst 2, 1) := dk_5 (dk_at dksX0_decades_0 21 rfl rfl)
theorem dX0_decades_22 : decode cX0_decades 22 = .ok (.ireturn, 1) := dk_172 (dk_at dksX0_decades_0 22 rfl rfl)
theorem dX0_decades_23 : decode cX0_decades 23 = .ok (.iconst 0, 1) := dk_3 (dk_at dksX0_decades_0 23 rfl rfl)
theorem dX0_decades_24 : decode cX0_decades 24 = .ok (.ireturn, 1) := dk_172 (dk_at dksX0_decades_1 0 rfl rfl)
theorem q106 : (Jvm.Cond.initialized "TableTowerLaw") ∈ lw_all := lw_g (lw_at lw_m1 0 rfl) rfl
theorem q148 : (Jvm.Cond.classLink "TableTowerLaw" (8 : Nat) "TableTower") ∈ lw_all := lw_g (lw_at lw_m1 42 rfl) rfl
theorem q150 : (Jvm.Cond.methodLink "TableTowerLaw" (85 : Nat) ({ cls := "TableTower", name := "<init>", desc := "()V" } : Jvm.MethodName)) ∈ lw_all := lw_g (lw_at lw_m1 44 rfl) rfl
theorem q750 : (Jvm.Cond.methodLink "TableTowerLaw" (89 : Nat) ({ cls := "TableTower", name := "feed", desc := "(IIIII)I" } : Jvm.MethodName)) ∈ lw_all := lw_g (lw_at lw_m3 164 rfl) rfl
theorem q758 : (Jvm.Cond.methodLink "TableTowerLaw" (104 : Nat) ({ cls := "TableTower", name := "fault", desc := "()I" } : Jvm.MethodName)) ∈ lw_all := lw_g (lw_at lw_m3 172 rfl) rfl
theorem q762 : (Jvm.Cond.methodLink "TableTowerLaw" (118 : Nat) ({ cls := "TableTower", name := "by", desc := "()I" } : Jvm.MethodName)) ∈ lw_all := lw_g (lw_at lw_m3 176 rfl) rfl
theorem q775 : (Jvm.Cond.methodLink "TableTowerLaw" (137 : Nat) ({ cls := "TableTower", name := "supper", desc := "()I" } : Jvm.MethodName)) ∈ lw_all := lw_g (lw_at lw_m3 189 rfl) rfl
theorem q868 : (Jvm.Cond.methodLink "TableTowerLaw" (141 : Nat) ({ cls := "TableTower", name := "years", desc := "(I)I" } : Jvm.MethodName)) ∈ lw_all := lw_g (lw_at lw_m4 42 rfl) rfl
theorem q883 : (Jvm.Cond.methodLink "TableTowerLaw" (145 : Nat) ({ cls := "TableTower", name := "undo", desc := "()I" } : Jvm.MethodName)) ∈ lw_all := lw_g (lw_at lw_m4 57 rfl) rfl
theorem q889 : (Jvm.Cond.methodLink "TableTowerLaw" (149 : Nat) ({ cls := "TableTower", name := "more", desc := "()I" } : Jvm.MethodName)) ∈ lw_all := lw_g (lw_at lw_m4 63 rfl) rfl
theorem q982 : (Jvm.Cond.methodLink "TableTowerLaw" (162 : Nat) ({ cls := "TableTower", name := "orders", desc := "()J" } : Jvm.MethodName)) ∈ lw_all := lw_g (lw_at lw_m4 156 rfl) rfl
theorem q1020 : (Jvm.Cond.methodLink "TableTowerLaw" (167 : Nat) ({ cls := "TableTower", name := "wedges", desc := "()I" } : Jvm.MethodName)) ∈ lw_all := lw_g (lw_at lw_m4 194 rfl) rfl
theorem q1030 : (Jvm.Cond.methodLink "TableTowerLaw" (171 : Nat) ({ cls := "TableTower", name := "when", desc := "()I" } : Jvm.MethodName)) ∈ lw_all := lw_g (lw_at lw_m4 204 rfl) rfl
theorem q1034 : (Jvm.Cond.methodLink "TableTowerLaw" (175 : Nat) ({ cls := "TableTower", name := "marriages", desc := "()I" } : Jvm.MethodName)) ∈ lw_all := lw_g (lw_at lw_m4 208 rfl) rfl
theorem q1051 : (Jvm.Cond.methodLink "TableTowerLaw" (185 : Nat) ({ cls := "TableTower", name := "fair", desc := "()I" } : Jvm.MethodName)) ∈ lw_all := lw_g (lw_at lw_m4 225 rfl) rfl
theorem q1059 : (Jvm.Cond.methodLink "TableTowerLaw" (192 : Nat) ({ cls := "TableTower", name := "oneWedge", desc := "()I" } : Jvm.MethodName)) ∈ lw_all := lw_g (lw_at lw_m4 233 rfl) rfl
theorem q1067 : (Jvm.Cond.methodLink "TableTowerLaw" (199 : Nat) ({ cls := "TableTower", name := "swap", desc := "()I" } : Jvm.MethodName)) ∈ lw_all := lw_g (lw_at lw_m5 1 rfl) rfl
theorem q1071 : (Jvm.Cond.methodLink "TableTowerLaw" (209 : Nat) ({ cls := "TableTower", name := "crooked", desc := "()I" } : Jvm.MethodName)) ∈ lw_all := lw_g (lw_at lw_m5 5 rfl) rfl
theorem q1076 : (Jvm.Cond.methodLink "TableTowerLaw" (216 : Nat) ({ cls := "TableTower", name := "relief", desc := "()I" } : Jvm.MethodName)) ∈ lw_all := lw_g (lw_at lw_m5 10 rfl) rfl
theorem q1088 : (Jvm.Cond.methodLink "TableTowerLaw" (220 : Nat) ({ cls := "TableTower", name := "hungriest", desc := "()I" } : Jvm.MethodName)) ∈ lw_all := lw_g (lw_at lw_m5 22 rfl) rfl
theorem q1092 : (Jvm.Cond.methodLink "TableTowerLaw" (224 : Nat) ({ cls := "TableTower", name := "see", desc := "(II)I" } : Jvm.MethodName)) ∈ lw_all := lw_g (lw_at lw_m5 26 rfl) rfl
theorem q1096 : (Jvm.Cond.methodLink "TableTowerLaw" (231 : Nat) ({ cls := "TableTower", name := "look", desc := "()I" } : Jvm.MethodName)) ∈ lw_all := lw_g (lw_at lw_m5 30 rfl) rfl
theorem q1112 : (Jvm.Cond.methodLink "TableTowerLaw" (235 : Nat) ({ cls := "TableTower", name := "forget", desc := "()V" } : Jvm.MethodName)) ∈ lw_all := lw_g (lw_at lw_m5 46 rfl) rfl
theorem q1116 : (Jvm.Cond.methodLink "TableTowerLaw" (246 : Nat) ({ cls := "TableTower", name := "image", desc := "()V" } : Jvm.MethodName)) ∈ lw_all := lw_g (lw_at lw_m5 50 rfl) rfl
theorem q1125 : (Jvm.Cond.methodLink "TableTowerLaw" (250 : Nat) ({ cls := "TableTower", name := "restore", desc := "()Z" } : Jvm.MethodName)) ∈ lw_all := lw_g (lw_at lw_m5 59 rfl) rfl
theorem q1129 : (Jvm.Cond.methodLink "TableTowerLaw" (94 : Nat) ({ cls := "TableTowerLaw", name := "town", desc := "(LTableTower;I[J)I" } : Jvm.MethodName)) ∈ lw_all := lw_g (lw_at lw_m5 63 rfl) rfl
theorem q1130 : (Jvm.Cond.static ({ cls := "TableTowerLaw", name := "town", desc := "(LTableTower;I[J)I" } : Jvm.MethodName)) ∈ lw_all := lw_g (lw_at lw_m5 64 rfl) rfl
theorem q1131 : (Jvm.Cond.codeWith ({ cls := "TableTowerLaw", name := "town", desc := "(LTableTower;I[J)I" } : Jvm.MethodName) method_3_code (4 : Nat) (Option.some Jvm.ClassFile.FieldType.int) [((0 : Nat), (9 : Nat), (12 : Nat), (13 : Nat))]) ∈ lw_all := lw_g (lw_at lw_m5 65 rfl) rfl
theorem q1132 : (Jvm.Cond.classLink "TableTowerLaw" (13 : Nat) "java/lang/IllegalArgumentException") ∈ lw_all := lw_g (lw_at lw_m5 66 rfl) rfl
theorem q1133 : (Jvm.Cond.methodLink "TableTowerLaw" (7 : Nat) ({ cls := "TableTower", name := "town", desc := "(I)I" } : Jvm.MethodName)) ∈ lw_all := lw_g (lw_at lw_m5 67 rfl) rfl
theorem q1494 : (Jvm.Cond.methodLink "TableTowerLaw" (108 : Nat) ({ cls := "TableTowerLaw", name := "count", desc := "(LTableTower;I[J)I" } : Jvm.MethodName)) ∈ lw_all := lw_g (lw_at lw_m6 188 rfl) rfl
theorem q1495 : (Jvm.Cond.static ({ cls := "TableTowerLaw", name := "count", desc := "(LTableTower;I[J)I" } : Jvm.MethodName)) ∈ lw_all := lw_g (lw_at lw_m6 189 rfl) rfl
theorem q1496 : (Jvm.Cond.codeWith ({ cls := "TableTowerLaw", name := "count", desc := "(LTableTower;I[J)I" } : Jvm.MethodName) method_4_code (4 : Nat) (Option.some Jvm.ClassFile.FieldType.int) [((0 : Nat), (9 : Nat), (12 : Nat), (18 : Nat))]) ∈ lw_all := lw_g (lw_at lw_m6 190 rfl) rfl
theorem q1497 : (Jvm.Cond.classLink "TableTowerLaw" (18 : Nat) "java/util/NoSuchElementException") ∈ lw_all := lw_g (lw_at lw_m6 191 rfl) rfl
theorem q1498 : (Jvm.Cond.methodLink "TableTowerLaw" (15 : Nat) ({ cls := "TableTower", name := "count", desc := "(I)I" } : Jvm.MethodName)) ∈ lw_all := lw_g (lw_at lw_m6 192 rfl) rfl
theorem q1521 : (Jvm.Cond.methodLink "TableTowerLaw" (111 : Nat) ({ cls := "TableTowerLaw", name := "table", desc := "(LTableTower;II[J)I" } : Jvm.MethodName)) ∈ lw_all := lw_g (lw_at lw_m6 215 rfl) rfl
theorem q1522 : (Jvm.Cond.static ({ cls := "TableTowerLaw", name := "table", desc := "(LTableTower;II[J)I" } : Jvm.MethodName)) ∈ lw_all := lw_g (lw_at lw_m6 216 rfl) rfl
theorem q1523 : (Jvm.Cond.codeWith ({ cls := "TableTowerLaw", name := "table", desc := "(LTableTower;II[J)I" } : Jvm.MethodName) method_5_code (5 : Nat) (Option.some Jvm.ClassFile.FieldType.int) [((0 : Nat), (10 : Nat), (13 : Nat), (18 : Nat))]) ∈ lw_all := lw_g (lw_at lw_m6 217 rfl) rfl
theorem q1524 : (Jvm.Cond.methodLink "TableTowerLaw" (20 : Nat) ({ cls := "TableTower", name := "table", desc := "(II)I" } : Jvm.MethodName)) ∈ lw_all := lw_g (lw_at lw_m6 218 rfl) rfl
theorem q1541 : (Jvm.Cond.methodLink "TableTowerLaw" (115 : Nat) ({ cls := "TableTowerLaw", name := "level", desc := "(LTableTower;II[J)I" } : Jvm.MethodName)) ∈ lw_all := lw_g (lw_at lw_m6 235 rfl) rfl
theorem q1542 : (Jvm.Cond.static ({ cls := "TableTowerLaw", name := "level", desc := "(LTableTower;II[J)I" } : Jvm.MethodName)) ∈ lw_all := lw_g (lw_at lw_m6 236 rfl) rfl
theorem q1543 : (Jvm.Cond.codeWith ({ cls := "TableTowerLaw", name := "level", desc := "(LTableTower;II[J)I" } : Jvm.MethodName) method_6_code (5 : Nat) (Option.some Jvm.ClassFile.FieldType.int) [((0 : Nat), (10 : Nat), (13 : Nat), (18 : Nat))]) ∈ lw_all := lw_g (lw_at lw_m6 237 rfl) rfl
theorem q1544 : (Jvm.Cond.methodLink "TableTowerLaw" (24 : Nat) ({ cls := "TableTower", name := "level", desc := "(II)I" } : Jvm.MethodName)) ∈ lw_all := lw_g (lw_at lw_m6 238 rfl) rfl
theorem q1553 : (Jvm.Cond.methodLink "TableTowerLaw" (122 : Nat) ({ cls := "TableTowerLaw", name := "put", desc := "(LTableTower;II[J)I" } : Jvm.MethodName)) ∈ lw_all := lw_g (lw_at lw_m7 7 rfl) rfl
theorem q1554 : (Jvm.Cond.static ({ cls := "TableTowerLaw", name := "put", desc := "(LTableTower;II[J)I" } : Jvm.MethodName)) ∈ lw_all := lw_g (lw_at lw_m7 8 rfl) rfl
theorem q1555 : (Jvm.Cond.codeWith ({ cls := "TableTowerLaw", name := "put", desc := "(LTableTower;II[J)I" } : Jvm.MethodName) method_7_code (5 : Nat) (Option.some Jvm.ClassFile.FieldType.int) [((0 : Nat), (10 : Nat), (13 : Nat), (18 : Nat))]) ∈ lw_all := lw_g (lw_at lw_m7 9 rfl) rfl
theorem q1556 : (Jvm.Cond.methodLink "TableTowerLaw" (27 : Nat) ({ cls := "TableTower", name := "put", desc := "(II)I" } : Jvm.MethodName)) ∈ lw_all := lw_g (lw_at lw_m7 10 rfl) rfl
theorem q1564 : (Jvm.Cond.methodLink "TableTowerLaw" (125 : Nat) ({ cls := "TableTowerLaw", name := "take", desc := "(LTableTower;I[J)I" } : Jvm.MethodName)) ∈ lw_all := lw_g (lw_at lw_m7 18 rfl) rfl
theorem q1565 : (Jvm.Cond.static ({ cls := "TableTowerLaw", name := "take", desc := "(LTableTower;I[J)I" } : Jvm.MethodName)) ∈ lw_all := lw_g (lw_at lw_m7 19 rfl) rfl
theorem q1566 : (Jvm.Cond.codeWith ({ cls := "TableTowerLaw", name := "take", desc := "(LTableTower;I[J)I" } : Jvm.MethodName) method_8_code (4 : Nat) (Option.some Jvm.ClassFile.FieldType.int) [((0 : Nat), (9 : Nat), (12 : Nat), (18 : Nat))]) ∈ lw_all := lw_g (lw_at lw_m7 20 rfl) rfl
theorem q1567 : (Jvm.Cond.methodLink "TableTowerLaw" (30 : Nat) ({ cls := "TableTower", name := "take", desc := "(I)I" } : Jvm.MethodName)) ∈ lw_all := lw_g (lw_at lw_m7 21 rfl) rfl
theorem q1571 : (Jvm.Cond.methodLink "TableTowerLaw" (128 : Nat) ({ cls := "TableTowerLaw", name := "change", desc := "(LTableTower;II[J)I" } : Jvm.MethodName)) ∈ lw_all := lw_g (lw_at lw_m7 25 rfl) rfl
theorem q1572 : (Jvm.Cond.static ({ cls := "TableTowerLaw", name := "change", desc := "(LTableTower;II[J)I" } : Jvm.MethodName)) ∈ lw_all := lw_g (lw_at lw_m7 26 rfl) rfl
theorem q1573 : (Jvm.Cond.codeWith ({ cls := "TableTowerLaw", name := "change", desc := "(LTableTower;II[J)I" } : Jvm.MethodName) method_9_code (5 : Nat) (Option.some Jvm.ClassFile.FieldType.int) [((0 : Nat), (17 : Nat), (20 : Nat), (18 : Nat))]) ∈ lw_all := lw_g (lw_at lw_m7 27 rfl) rfl
theorem q1574 : (Jvm.Cond.methodLink "TableTowerLaw" (33 : Nat) ({ cls := "TableTower", name := "change", desc := "(II)Z" } : Jvm.MethodName)) ∈ lw_all := lw_g (lw_at lw_m7 28 rfl) rfl
theorem q1578 : (Jvm.Cond.methodLink "TableTowerLaw" (131 : Nat) ({ cls := "TableTowerLaw", name := "wedge", desc := "(LTableTower;II[J)I" } : Jvm.MethodName)) ∈ lw_all := lw_g (lw_at lw_m7 32 rfl) rfl
theorem q1579 : (Jvm.Cond.static ({ cls := "TableTowerLaw", name := "wedge", desc := "(LTableTower;II[J)I" } : Jvm.MethodName)) ∈ lw_all := lw_g (lw_at lw_m7 33 rfl) rfl
theorem q1580 : (Jvm.Cond.codeWith ({ cls := "TableTowerLaw", name := "wedge", desc := "(LTableTower;II[J)I" } : Jvm.MethodName) method_10_code (5 : Nat) (Option.some Jvm.ClassFile.FieldType.int) [((0 : Nat), (10 : Nat), (13 : Nat), (18 : Nat))]) ∈ lw_all := lw_g (lw_at lw_m7 34 rfl) rfl
theorem q1581 : (Jvm.Cond.methodLink "TableTowerLaw" (37 : Nat) ({ cls := "TableTower", name := "wedge", desc := "(II)I" } : Jvm.MethodName)) ∈ lw_all := lw_g (lw_at lw_m7 35 rfl) rfl
theorem q1589 : (Jvm.Cond.methodLink "TableTowerLaw" (134 : Nat) ({ cls := "TableTowerLaw", name := "saw", desc := "(LTableTower;II[J)I" } : Jvm.MethodName)) ∈ lw_all := lw_g (lw_at lw_m7 43 rfl) rfl
theorem q1590 : (Jvm.Cond.static ({ cls := "TableTowerLaw", name := "saw", desc := "(LTableTower;II[J)I" } : Jvm.MethodName)) ∈ lw_all := lw_g (lw_at lw_m7 44 rfl) rfl
theorem q1591 : (Jvm.Cond.codeWith ({ cls := "TableTowerLaw", name := "saw", desc := "(LTableTower;II[J)I" } : Jvm.MethodName) method_11_code (5 : Nat) (Option.some Jvm.ClassFile.FieldType.int) [((0 : Nat), (10 : Nat), (13 : Nat), (18 : Nat))]) ∈ lw_all := lw_g (lw_at lw_m7 45 rfl) rfl
theorem q1592 : (Jvm.Cond.methodLink "TableTowerLaw" (40 : Nat) ({ cls := "TableTower", name := "saw", desc := "(II)I" } : Jvm.MethodName)) ∈ lw_all := lw_g (lw_at lw_m7 46 rfl) rfl
theorem q1596 : (Jvm.Cond.methodLink "TableTowerLaw" (153 : Nat) ({ cls := "TableTowerLaw", name := "without", desc := "(LTableTower;I[J)I" } : Jvm.MethodName)) ∈ lw_all := lw_g (lw_at lw_m7 50 rfl) rfl
theorem q1597 : (Jvm.Cond.static ({ cls := "TableTowerLaw", name := "without", desc := "(LTableTower;I[J)I" } : Jvm.MethodName)) ∈ lw_all := lw_g (lw_at lw_m7 51 rfl) rfl
theorem q1598 : (Jvm.Cond.codeWith ({ cls := "TableTowerLaw", name := "without", desc := "(LTableTower;I[J)I" } : Jvm.MethodName) method_12_code (4 : Nat) (Option.some Jvm.ClassFile.FieldType.int) [((0 : Nat), (16 : Nat), (19 : Nat), (18 : Nat))]) ∈ lw_all := lw_g (lw_at lw_m7 52 rfl) rfl
theorem q1599 : (Jvm.Cond.methodLink "TableTowerLaw" (43 : Nat) ({ cls := "TableTower", name := "without", desc := "(I)Z" } : Jvm.MethodName)) ∈ lw_all := lw_g (lw_at lw_m7 53 rfl) rfl
theorem q1603 : (Jvm.Cond.methodLink "TableTowerLaw" (156 : Nat) ({ cls := "TableTowerLaw", name := "most", desc := "(LTableTower;I[J)I" } : Jvm.MethodName)) ∈ lw_all := lw_g (lw_at lw_m7 57 rfl) rfl
theorem q1604 : (Jvm.Cond.static ({ cls := "TableTowerLaw", name := "most", desc := "(LTableTower;I[J)I" } : Jvm.MethodName)) ∈ lw_all := lw_g (lw_at lw_m7 58 rfl) rfl
theorem q1605 : (Jvm.Cond.codeWith ({ cls := "TableTowerLaw", name := "most", desc := "(LTableTower;I[J)I" } : Jvm.MethodName) method_13_code (4 : Nat) (Option.some Jvm.ClassFile.FieldType.int) [((0 : Nat), (9 : Nat), (12 : Nat), (18 : Nat))]) ∈ lw_all := lw_g (lw_at lw_m7 59 rfl) rfl
theorem q1606 : (Jvm.Cond.methodLink "TableTowerLaw" (47 : Nat) ({ cls := "TableTower", name := "most", desc := "(I)I" } : Jvm.MethodName)) ∈ lw_all := lw_g (lw_at lw_m7 60 rfl) rfl
theorem q1614 : (Jvm.Cond.methodLink "TableTowerLaw" (159 : Nat) ({ cls := "TableTowerLaw", name := "row", desc := "(LTableTower;I[J)I" } : Jvm.MethodName)) ∈ lw_all := lw_g (lw_at lw_m7 68 rfl) rfl
theorem q1615 : (Jvm.Cond.static ({ cls := "TableTowerLaw", name := "row", desc := "(LTableTower;I[J)I" } : Jvm.MethodName)) ∈ lw_all := lw_g (lw_at lw_m7 69 rfl) rfl
theorem q1616 : (Jvm.Cond.codeWith ({ cls := "TableTowerLaw", name := "row", desc := "(LTableTower;I[J)I" } : Jvm.MethodName) method_14_code (4 : Nat) (Option.some Jvm.ClassFile.FieldType.int) [((0 : Nat), (9 : Nat), (12 : Nat), (18 : Nat))]) ∈ lw_all := lw_g (lw_at lw_m7 70 rfl) rfl
theorem q1617 : (Jvm.Cond.methodLink "TableTowerLaw" (50 : Nat) ({ cls := "TableTower", name := "row", desc := "(I)I" } : Jvm.MethodName)) ∈ lw_all := lw_g (lw_at lw_m7 71 rfl) rfl
theorem q1625 : (Jvm.Cond.methodLink "TableTowerLaw" (179 : Nat) ({ cls := "TableTowerLaw", name := "marry", desc := "(LTableTower;II[J)I" } : Jvm.MethodName)) ∈ lw_all := lw_g (lw_at lw_m7 79 rfl) rfl
theorem q1626 : (Jvm.Cond.static ({ cls := "TableTowerLaw", name := "marry", desc := "(LTableTower;II[J)I" } : Jvm.MethodName)) ∈ lw_all := lw_g (lw_at lw_m7 80 rfl) rfl
theorem q1627 : (Jvm.Cond.codeWith ({ cls := "TableTowerLaw", name := "marry", desc := "(LTableTower;II[J)I" } : Jvm.MethodName) method_15_code (5 : Nat) (Option.some Jvm.ClassFile.FieldType.int) [((0 : Nat), (17 : Nat), (20 : Nat), (18 : Nat)), ((0 : Nat), (17 : Nat), (24 : Nat), (13 : Nat))]) ∈ lw_all := lw_g (lw_at lw_m7 81 rfl) rfl
theorem q1628 : (Jvm.Cond.methodLink "TableTowerLaw" (53 : Nat) ({ cls := "TableTower", name := "marry", desc := "(II)Z" } : Jvm.MethodName)) ∈ lw_all := lw_g (lw_at lw_m7 82 rfl) rfl
theorem q1632 : (Jvm.Cond.methodLink "TableTowerLaw" (182 : Nat) ({ cls := "TableTowerLaw", name := "nod", desc := "(LTableTower;II[J)I" } : Jvm.MethodName)) ∈ lw_all := lw_g (lw_at lw_m7 86 rfl) rfl
theorem q1633 : (Jvm.Cond.static ({ cls := "TableTowerLaw", name := "nod", desc := "(LTableTower;II[J)I" } : Jvm.MethodName)) ∈ lw_all := lw_g (lw_at lw_m7 87 rfl) rfl
theorem q1634 : (Jvm.Cond.codeWith ({ cls := "TableTowerLaw", name := "nod", desc := "(LTableTower;II[J)I" } : Jvm.MethodName) method_16_code (5 : Nat) (Option.some Jvm.ClassFile.FieldType.int) [((0 : Nat), (10 : Nat), (13 : Nat), (18 : Nat)), ((0 : Nat), (10 : Nat), (17 : Nat), (13 : Nat))]) ∈ lw_all := lw_g (lw_at lw_m7 88 rfl) rfl
theorem q1635 : (Jvm.Cond.methodLink "TableTowerLaw" (56 : Nat) ({ cls := "TableTower", name := "nod", desc := "(II)I" } : Jvm.MethodName)) ∈ lw_all := lw_g (lw_at lw_m7 89 rfl) rfl
theorem q1639 : (Jvm.Cond.methodLink "TableTowerLaw" (189 : Nat) ({ cls := "TableTowerLaw", name := "out", desc := "(LTableTower;I[J)I" } : Jvm.MethodName)) ∈ lw_all := lw_g (lw_at lw_m7 93 rfl) rfl
theorem q1640 : (Jvm.Cond.static ({ cls := "TableTowerLaw", name := "out", desc := "(LTableTower;I[J)I" } : Jvm.MethodName)) ∈ lw_all := lw_g (lw_at lw_m7 94 rfl) rfl
theorem q1641 : (Jvm.Cond.codeWith ({ cls := "TableTowerLaw", name := "out", desc := "(LTableTower;I[J)I" } : Jvm.MethodName) method_17_code (4 : Nat) (Option.some Jvm.ClassFile.FieldType.int) [((0 : Nat), (9 : Nat), (12 : Nat), (18 : Nat))]) ∈ lw_all := lw_g (lw_at lw_m7 95 rfl) rfl
theorem q1642 : (Jvm.Cond.methodLink "TableTowerLaw" (59 : Nat) ({ cls := "TableTower", name := "out", desc := "(I)I" } : Jvm.MethodName)) ∈ lw_all := lw_g (lw_at lw_m7 96 rfl) rfl
theorem q1646 : (Jvm.Cond.methodLink "TableTowerLaw" (196 : Nat) ({ cls := "TableTowerLaw", name := "lifted", desc := "(LTableTower;II[J)I" } : Jvm.MethodName)) ∈ lw_all := lw_g (lw_at lw_m7 100 rfl) rfl
theorem q1647 : (Jvm.Cond.static ({ cls := "TableTowerLaw", name := "lifted", desc := "(LTableTower;II[J)I" } : Jvm.MethodName)) ∈ lw_all := lw_g (lw_at lw_m7 101 rfl) rfl
theorem q1648 : (Jvm.Cond.codeWith ({ cls := "TableTowerLaw", name := "lifted", desc := "(LTableTower;II[J)I" } : Jvm.MethodName) method_18_code (5 : Nat) (Option.some Jvm.ClassFile.FieldType.int) [((0 : Nat), (9 : Nat), (12 : Nat), (13 : Nat))]) ∈ lw_all := lw_g (lw_at lw_m7 102 rfl) rfl
theorem q1649 : (Jvm.Cond.methodLink "TableTowerLaw" (62 : Nat) ({ cls := "TableTower", name := "lifted", desc := "(II)J" } : Jvm.MethodName)) ∈ lw_all := lw_g (lw_at lw_m7 103 rfl) rfl
theorem q1653 : (Jvm.Cond.methodLink "TableTowerLaw" (203 : Nat) ({ cls := "TableTowerLaw", name := "slack", desc := "(LTableTower;I[J)I" } : Jvm.MethodName)) ∈ lw_all := lw_g (lw_at lw_m7 107 rfl) rfl
theorem q1654 : (Jvm.Cond.static ({ cls := "TableTowerLaw", name := "slack", desc := "(LTableTower;I[J)I" } : Jvm.MethodName)) ∈ lw_all := lw_g (lw_at lw_m7 108 rfl) rfl
theorem q1655 : (Jvm.Cond.codeWith ({ cls := "TableTowerLaw", name := "slack", desc := "(LTableTower;I[J)I" } : Jvm.MethodName) method_19_code (4 : Nat) (Option.some Jvm.ClassFile.FieldType.int) [((0 : Nat), (9 : Nat), (12 : Nat), (18 : Nat))]) ∈ lw_all := lw_g (lw_at lw_m7 109 rfl) rfl
theorem q1656 : (Jvm.Cond.methodLink "TableTowerLaw" (66 : Nat) ({ cls := "TableTower", name := "slack", desc := "(I)I" } : Jvm.MethodName)) ∈ lw_all := lw_g (lw_at lw_m7 110 rfl) rfl
theorem q1660 : (Jvm.Cond.methodLink "TableTowerLaw" (206 : Nat) ({ cls := "TableTowerLaw", name := "broken", desc := "(LTableTower;I[J)I" } : Jvm.MethodName)) ∈ lw_all := lw_g (lw_at lw_m7 114 rfl) rfl
theorem q1661 : (Jvm.Cond.static ({ cls := "TableTowerLaw", name := "broken", desc := "(LTableTower;I[J)I" } : Jvm.MethodName)) ∈ lw_all := lw_g (lw_at lw_m7 115 rfl) rfl
theorem q1662 : (Jvm.Cond.codeWith ({ cls := "TableTowerLaw", name := "broken", desc := "(LTableTower;I[J)I" } : Jvm.MethodName) method_20_code (4 : Nat) (Option.some Jvm.ClassFile.FieldType.int) [((0 : Nat), (9 : Nat), (12 : Nat), (13 : Nat))]) ∈ lw_all := lw_g (lw_at lw_m7 116 rfl) rfl
theorem q1663 : (Jvm.Cond.methodLink "TableTowerLaw" (69 : Nat) ({ cls := "TableTower", name := "broken", desc := "(I)I" } : Jvm.MethodName)) ∈ lw_all := lw_g (lw_at lw_m7 117 rfl) rfl
theorem q1667 : (Jvm.Cond.methodLink "TableTowerLaw" (213 : Nat) ({ cls := "TableTowerLaw", name := "top", desc := "(LTableTower;I[J)I" } : Jvm.MethodName)) ∈ lw_all := lw_g (lw_at lw_m7 121 rfl) rfl
theorem q1668 : (Jvm.Cond.static ({ cls := "TableTowerLaw", name := "top", desc := "(LTableTower;I[J)I" } : Jvm.MethodName)) ∈ lw_all := lw_g (lw_at lw_m7 122 rfl) rfl
theorem q1669 : (Jvm.Cond.codeWith ({ cls := "TableTowerLaw", name := "top", desc := "(LTableTower;I[J)I" } : Jvm.MethodName) method_21_code (4 : Nat) (Option.some Jvm.ClassFile.FieldType.int) [((0 : Nat), (9 : Nat), (12 : Nat), (13 : Nat))]) ∈ lw_all := lw_g (lw_at lw_m7 123 rfl) rfl
theorem q1670 : (Jvm.Cond.methodLink "TableTowerLaw" (72 : Nat) ({ cls := "TableTower", name := "top", desc := "(I)I" } : Jvm.MethodName)) ∈ lw_all := lw_g (lw_at lw_m7 124 rfl) rfl
theorem q1674 : (Jvm.Cond.methodLink "TableTowerLaw" (228 : Nat) ({ cls := "TableTowerLaw", name := "which", desc := "(LTableTower;I[J)I" } : Jvm.MethodName)) ∈ lw_all := lw_g (lw_at lw_m7 128 rfl) rfl
theorem q1675 : (Jvm.Cond.static ({ cls := "TableTowerLaw", name := "which", desc := "(LTableTower;I[J)I" } : Jvm.MethodName)) ∈ lw_all := lw_g (lw_at lw_m7 129 rfl) rfl
theorem q1676 : (Jvm.Cond.codeWith ({ cls := "TableTowerLaw", name := "which", desc := "(LTableTower;I[J)I" } : Jvm.MethodName) method_22_code (4 : Nat) (Option.some Jvm.ClassFile.FieldType.int) [((0 : Nat), (9 : Nat), (12 : Nat), (18 : Nat))]) ∈ lw_all := lw_g (lw_at lw_m7 130 rfl) rfl
theorem q1677 : (Jvm.Cond.methodLink "TableTowerLaw" (75 : Nat) ({ cls := "TableTower", name := "which", desc := "(I)I" } : Jvm.MethodName)) ∈ lw_all := lw_g (lw_at lw_m7 131 rfl) rfl
theorem q1681 : (Jvm.Cond.methodLink "TableTowerLaw" (239 : Nat) ({ cls := "TableTowerLaw", name := "game", desc := "(LTableTower;I[J)I" } : Jvm.MethodName)) ∈ lw_all := lw_g (lw_at lw_m7 135 rfl) rfl
theorem q1682 : (Jvm.Cond.static ({ cls := "TableTowerLaw", name := "game", desc := "(LTableTower;I[J)I" } : Jvm.MethodName)) ∈ lw_all := lw_g (lw_at lw_m7 136 rfl) rfl
theorem q1683 : (Jvm.Cond.codeWith ({ cls := "TableTowerLaw", name := "game", desc := "(LTableTower;I[J)I" } : Jvm.MethodName) method_23_code (4 : Nat) (Option.some Jvm.ClassFile.FieldType.int) [((0 : Nat), (9 : Nat), (12 : Nat), (18 : Nat))]) ∈ lw_all := lw_g (lw_at lw_m7 137 rfl) rfl
theorem q1684 : (Jvm.Cond.methodLink "TableTowerLaw" (78 : Nat) ({ cls := "TableTower", name := "game", desc := "(I)I" } : Jvm.MethodName)) ∈ lw_all := lw_g (lw_at lw_m7 138 rfl) rfl
theorem q1696 : (Jvm.Cond.methodLink "TableTowerLaw" (242 : Nat) ({ cls := "TableTowerLaw", name := "decades", desc := "(LTableTower;III[J)I" } : Jvm.MethodName)) ∈ lw_all := lw_g (lw_at lw_m7 150 rfl) rfl
theorem q1697 : (Jvm.Cond.static ({ cls := "TableTowerLaw", name := "decades", desc := "(LTableTower;III[J)I" } : Jvm.MethodName)) ∈ lw_all := lw_g (lw_at lw_m7 151 rfl) rfl
theorem q1698 : (Jvm.Cond.codeWith ({ cls := "TableTowerLaw", name := "decades", desc := "(LTableTower;III[J)I" } : Jvm.MethodName) method_24_code (6 : Nat) (Option.some Jvm.ClassFile.FieldType.int) [((0 : Nat), (12 : Nat), (15 : Nat), (18 : Nat)), ((0 : Nat), (12 : Nat), (19 : Nat), (13 : Nat))]) ∈ lw_all := lw_g (lw_at lw_m7 152 rfl) rfl
theorem q1699 : (Jvm.Cond.methodLink "TableTowerLaw" (81 : Nat) ({ cls := "TableTower", name := "decades", desc := "(III)I" } : Jvm.MethodName)) ∈ lw_all := lw_g (lw_at lw_m7 153 rfl) rfl
theorem q1712 : (Jvm.Cond.classLink "TableTowerLaw" (86 : Nat) "TableTowerModel") ∈ lw_all := lw_g (lw_at lw_m7 166 rfl) rfl
theorem q1714 : (Jvm.Cond.methodLink "TableTowerLaw" (88 : Nat) ({ cls := "TableTowerModel", name := "<init>", desc := "()V" } : Jvm.MethodName)) ∈ lw_all := lw_g (lw_at lw_m7 168 rfl) rfl
theorem q1905 : (Jvm.Cond.methodLink "TableTowerLaw" (100 : Nat) ({ cls := "TableTowerModel", name := "thrown", desc := "()I" } : Jvm.MethodName)) ∈ lw_all := lw_g (lw_at lw_m8 119 rfl) rfl
theorem q1909 : (Jvm.Cond.methodLink "TableTowerLaw" (93 : Nat) ({ cls := "TableTowerModel", name := "feed", desc := "(IIIII)I" } : Jvm.MethodName)) ∈ lw_all := lw_g (lw_at lw_m8 123 rfl) rfl
theorem q1913 : (Jvm.Cond.methodLink "TableTowerLaw" (99 : Nat) ({ cls := "TableTowerModel", name := "town", desc := "(I)I" } : Jvm.MethodName)) ∈ lw_all := lw_g (lw_at lw_m8 127 rfl) rfl
theorem q2015 : (Jvm.Cond.methodLink "TableTowerLaw" (107 : Nat) ({ cls := "TableTowerModel", name := "fault", desc := "()I" } : Jvm.MethodName)) ∈ lw_all := lw_g (lw_at lw_m8 229 rfl) rfl
theorem q2019 : (Jvm.Cond.methodLink "TableTowerLaw" (110 : Nat) ({ cls := "TableTowerModel", name := "count", desc := "(I)I" } : Jvm.MethodName)) ∈ lw_all := lw_g (lw_at lw_m8 233 rfl) rfl
theorem q2065 : (Jvm.Cond.methodLink "TableTowerLaw" (114 : Nat) ({ cls := "TableTowerModel", name := "table", desc := "(II)I" } : Jvm.MethodName)) ∈ lw_all := lw_g (lw_at lw_m9 39 rfl) rfl
theorem q2080 : (Jvm.Cond.methodLink "TableTowerLaw" (121 : Nat) ({ cls := "TableTowerModel", name := "by", desc := "()I" } : Jvm.MethodName)) ∈ lw_all := lw_g (lw_at lw_m9 54 rfl) rfl
theorem q2088 : (Jvm.Cond.methodLink "TableTowerLaw" (117 : Nat) ({ cls := "TableTowerModel", name := "level", desc := "(II)I" } : Jvm.MethodName)) ∈ lw_all := lw_g (lw_at lw_m9 62 rfl) rfl
theorem q2097 : (Jvm.Cond.methodLink "TableTowerLaw" (124 : Nat) ({ cls := "TableTowerModel", name := "put", desc := "(II)I" } : Jvm.MethodName)) ∈ lw_all := lw_g (lw_at lw_m9 71 rfl) rfl
theorem q2113 : (Jvm.Cond.methodLink "TableTowerLaw" (127 : Nat) ({ cls := "TableTowerModel", name := "take", desc := "(I)I" } : Jvm.MethodName)) ∈ lw_all := lw_g (lw_at lw_m9 87 rfl) rfl
theorem q2121 : (Jvm.Cond.methodLink "TableTowerLaw" (130 : Nat) ({ cls := "TableTowerModel", name := "change", desc := "(II)Z" } : Jvm.MethodName)) ∈ lw_all := lw_g (lw_at lw_m9 95 rfl) rfl
theorem q2133 : (Jvm.Cond.methodLink "TableTowerLaw" (133 : Nat) ({ cls := "TableTowerModel", name := "wedge", desc := "(II)I" } : Jvm.MethodName)) ∈ lw_all := lw_g (lw_at lw_m9 107 rfl) rfl
theorem q2143 : (Jvm.Cond.methodLink "TableTowerLaw" (136 : Nat) ({ cls := "TableTowerModel", name := "saw", desc := "(II)I" } : Jvm.MethodName)) ∈ lw_all := lw_g (lw_at lw_m9 117 rfl) rfl
theorem q2147 : (Jvm.Cond.methodLink "TableTowerLaw" (140 : Nat) ({ cls := "TableTowerModel", name := "supper", desc := "()I" } : Jvm.MethodName)) ∈ lw_all := lw_g (lw_at lw_m9 121 rfl) rfl
theorem q2162 : (Jvm.Cond.methodLink "TableTowerLaw" (144 : Nat) ({ cls := "TableTowerModel", name := "years", desc := "(I)I" } : Jvm.MethodName)) ∈ lw_all := lw_g (lw_at lw_m9 136 rfl) rfl
theorem q2167 : (Jvm.Cond.methodLink "TableTowerLaw" (148 : Nat) ({ cls := "TableTowerModel", name := "undo", desc := "()I" } : Jvm.MethodName)) ∈ lw_all := lw_g (lw_at lw_m9 141 rfl) rfl
theorem q2175 : (Jvm.Cond.methodLink "TableTowerLaw" (152 : Nat) ({ cls := "TableTowerModel", name := "more", desc := "()I" } : Jvm.MethodName)) ∈ lw_all := lw_g (lw_at lw_m9 149 rfl) rfl
theorem q2183 : (Jvm.Cond.methodLink "TableTowerLaw" (155 : Nat) ({ cls := "TableTowerModel", name := "without", desc := "(I)Z" } : Jvm.MethodName)) ∈ lw_all := lw_g (lw_at lw_m9 157 rfl) rfl
theorem q2187 : (Jvm.Cond.methodLink "TableTowerLaw" (158 : Nat) ({ cls := "TableTowerModel", name := "most", desc := "(I)I" } : Jvm.MethodName)) ∈ lw_all := lw_g (lw_at lw_m9 161 rfl) rfl
theorem q2213 : (Jvm.Cond.methodLink "TableTowerLaw" (161 : Nat) ({ cls := "TableTowerModel", name := "row", desc := "(I)I" } : Jvm.MethodName)) ∈ lw_all := lw_g (lw_at lw_m9 187 rfl) rfl
theorem q2217 : (Jvm.Cond.methodLink "TableTowerLaw" (166 : Nat) ({ cls := "TableTowerModel", name := "orders", desc := "()J" } : Jvm.MethodName)) ∈ lw_all := lw_g (lw_at lw_m9 191 rfl) rfl
theorem q2225 : (Jvm.Cond.methodLink "TableTowerLaw" (198 : Nat) ({ cls := "TableTowerModel", name := "lifted", desc := "(II)J" } : Jvm.MethodName)) ∈ lw_all := lw_g (lw_at lw_m9 199 rfl) rfl
theorem q2230 : (Jvm.Cond.methodLink "TableTowerLaw" (170 : Nat) ({ cls := "TableTowerModel", name := "wedges", desc := "()I" } : Jvm.MethodName)) ∈ lw_all := lw_g (lw_at lw_m9 204 rfl) rfl
theorem q2238 : (Jvm.Cond.methodLink "TableTowerLaw" (174 : Nat) ({ cls := "TableTowerModel", name := "when", desc := "()I" } : Jvm.MethodName)) ∈ lw_all := lw_g (lw_at lw_m9 212 rfl) rfl
theorem q2242 : (Jvm.Cond.methodLink "TableTowerLaw" (208 : Nat) ({ cls := "TableTowerModel", name := "broken", desc := "(I)I" } : Jvm.MethodName)) ∈ lw_all := lw_g (lw_at lw_m9 216 rfl) rfl
theorem q2247 : (Jvm.Cond.methodLink "TableTowerLaw" (181 : Nat) ({ cls := "TableTowerModel", name := "marry", desc := "(II)Z" } : Jvm.MethodName)) ∈ lw_all := lw_g (lw_at lw_m9 221 rfl) rfl
theorem q2255 : (Jvm.Cond.methodLink "TableTowerLaw" (178 : Nat) ({ cls := "TableTowerModel", name := "marriages", desc := "()I" } : Jvm.MethodName)) ∈ lw_all := lw_g (lw_at lw_m9 229 rfl) rfl
theorem q2263 : (Jvm.Cond.methodLink "TableTowerLaw" (184 : Nat) ({ cls := "TableTowerModel", name := "nod", desc := "(II)I" } : Jvm.MethodName)) ∈ lw_all := lw_g (lw_at lw_m9 237 rfl) rfl
theorem q2267 : (Jvm.Cond.methodLink "TableTowerLaw" (188 : Nat) ({ cls := "TableTowerModel", name := "fair", desc := "()I" } : Jvm.MethodName)) ∈ lw_all := lw_g (lw_at lw_m10 1 rfl) rfl
theorem q2271 : (Jvm.Cond.methodLink "TableTowerLaw" (215 : Nat) ({ cls := "TableTowerModel", name := "top", desc := "(I)I" } : Jvm.MethodName)) ∈ lw_all := lw_g (lw_at lw_m10 5 rfl) rfl
theorem q2276 : (Jvm.Cond.methodLink "TableTowerLaw" (223 : Nat) ({ cls := "TableTowerModel", name := "hungriest", desc := "()I" } : Jvm.MethodName)) ∈ lw_all := lw_g (lw_at lw_m10 10 rfl) rfl
theorem q2280 : (Jvm.Cond.methodLink "TableTowerLaw" (191 : Nat) ({ cls := "TableTowerModel", name := "out", desc := "(I)I" } : Jvm.MethodName)) ∈ lw_all := lw_g (lw_at lw_m10 14 rfl) rfl
theorem q2288 : (Jvm.Cond.methodLink "TableTowerLaw" (219 : Nat) ({ cls := "TableTowerModel", name := "relief", desc := "()I" } : Jvm.MethodName)) ∈ lw_all := lw_g (lw_at lw_m10 22 rfl) rfl
theorem q2292 : (Jvm.Cond.methodLink "TableTowerLaw" (195 : Nat) ({ cls := "TableTowerModel", name := "oneWedge", desc := "()I" } : Jvm.MethodName)) ∈ lw_all := lw_g (lw_at lw_m10 26 rfl) rfl
theorem q2296 : (Jvm.Cond.methodLink "TableTowerLaw" (202 : Nat) ({ cls := "TableTowerModel", name := "swap", desc := "()I" } : Jvm.MethodName)) ∈ lw_all := lw_g (lw_at lw_m10 30 rfl) rfl
theorem q2300 : (Jvm.Cond.methodLink "TableTowerLaw" (205 : Nat) ({ cls := "TableTowerModel", name := "slack", desc := "(I)I" } : Jvm.MethodName)) ∈ lw_all := lw_g (lw_at lw_m10 34 rfl) rfl
theorem q2304 : (Jvm.Cond.methodLink "TableTowerLaw" (212 : Nat) ({ cls := "TableTowerModel", name := "crooked", desc := "()I" } : Jvm.MethodName)) ∈ lw_all := lw_g (lw_at lw_m10 38 rfl) rfl
theorem q2308 : (Jvm.Cond.methodLink "TableTowerLaw" (227 : Nat) ({ cls := "TableTowerModel", name := "see", desc := "(II)I" } : Jvm.MethodName)) ∈ lw_all := lw_g (lw_at lw_m10 42 rfl) rfl
theorem q2313 : (Jvm.Cond.methodLink "TableTowerLaw" (230 : Nat) ({ cls := "TableTowerModel", name := "which", desc := "(I)I" } : Jvm.MethodName)) ∈ lw_all := lw_g (lw_at lw_m10 47 rfl) rfl
theorem q2326 : (Jvm.Cond.methodLink "TableTowerLaw" (234 : Nat) ({ cls := "TableTowerModel", name := "look", desc := "()I" } : Jvm.MethodName)) ∈ lw_all := lw_g (lw_at lw_m10 60 rfl) rfl
theorem q2334 : (Jvm.Cond.methodLink "TableTowerLaw" (238 : Nat) ({ cls := "TableTowerModel", name := "forget", desc := "()V" } : Jvm.MethodName)) ∈ lw_all := lw_g (lw_at lw_m10 68 rfl) rfl
theorem q2338 : (Jvm.Cond.methodLink "TableTowerLaw" (241 : Nat) ({ cls := "TableTowerModel", name := "game", desc := "(I)I" } : Jvm.MethodName)) ∈ lw_all := lw_g (lw_at lw_m10 72 rfl) rfl
theorem q2350 : (Jvm.Cond.methodLink "TableTowerLaw" (245 : Nat) ({ cls := "TableTowerModel", name := "decades", desc := "(III)I" } : Jvm.MethodName)) ∈ lw_all := lw_g (lw_at lw_m10 84 rfl) rfl
theorem q2364 : (Jvm.Cond.methodLink "TableTowerLaw" (249 : Nat) ({ cls := "TableTowerModel", name := "image", desc := "()V" } : Jvm.MethodName)) ∈ lw_all := lw_g (lw_at lw_m10 98 rfl) rfl
theorem q2371 : (Jvm.Cond.methodLink "TableTowerLaw" (254 : Nat) ({ cls := "TableTowerModel", name := "restore", desc := "()Z" } : Jvm.MethodName)) ∈ lw_all := lw_g (lw_at lw_m10 105 rfl) rfl
/-! TableTower$Expr -/
set_option maxRecDepth 100000
def RX10 : String := "TableTower$Expr"
abbrev cX10_init : ByteArray := prog_5_method_1_code
def yX10_init : MethodName := ⟨RX10, "<init>", "()V"⟩
theorem dX10_init_0 : decode cX10_init 0 = .ok (.aload_n 0, 1) := by decide +kernel
theorem dX10_init_1 : decode cX10_init 1 = .ok (.invokespecial 1, 3) := by decide +kernel
theorem dX10_init_4 : decode cX10_init 4 = .ok (.return_, 1) := by decide +kernel
theorem q138 : (Jvm.Cond.initialized "TableTower$Expr") ∈ lw_all := lw_g (lw_at lw_m1 32 rfl) rfl
theorem q850 : (Jvm.Cond.declares ({ cls := "TableTower$Expr", name := "by", desc := "(LTableTower$View;)I" } : Jvm.MethodName)) ∈ lw_tbl := lw_at lw_m4 24 rfl
theorem q851 : (Jvm.Cond.sameMethod "TableTower$Expr" "TableTower$Expr" "by" "(LTableTower$View;)I") ∈ lw_all := lw_g (lw_at lw_m4 25 rfl) rfl
theorem q1341 : (Jvm.Cond.instanceMethod ({ cls := "TableTower$Expr", name := "<init>", desc := "()V" } : Jvm.MethodName)) ∈ lw_all := lw_g (lw_at lw_m6 35 rfl) rfl
theorem q1342 : (Jvm.Cond.code ({ cls := "TableTower$Expr", name := "<init>", desc := "()V" } : Jvm.MethodName) prog_5_method_1_code (1 : Nat) (Option.none : Option Jvm.ClassFile.FieldType)) ∈ lw_all := lw_g (lw_at lw_m6 36 rfl) rfl
theorem q1343 : (Jvm.Cond.methodLink "TableTower$Expr" (1 : Nat) ({ cls := "java/lang/Object", name := "<init>", desc := "()V" } : Jvm.MethodName)) ∈ lw_all := lw_g (lw_at lw_m6 37 rfl) rfl
/-! TableTower$Told -/
set_option maxRecDepth 100000
def RX11 : String := "TableTower$Told"
def TX11 : u_T := fun k => match k with
  | _ => ("TableTower$Told", "n", "I", true)
def tyX11 : Nat → FieldType := fun k => match k with
  | _ => .int
abbrev wsX110 : List Cond := u_ws RX11 TX11 1
theorem nmX11 : ∀ a, a < 1 → ∀ b, b < 1 → a ≠ b → (TX11 a).2.1 ≠ (TX11 b).2.1 := by decide +kernel
theorem tyX11_ok : ∀ k, k < 1 → parseFieldDescriptor (TX11 k).2.2.1 = some (tyX11 k) := by decide +kernel
abbrev cX11_by : ByteArray := prog_15_method_2_code
def yX11_by : MethodName := ⟨RX11, "by", "(LTableTower$View;)I"⟩
theorem dX11_by_0 : decode cX11_by 0 = .ok (.aload_n 0, 1) := by decide +kernel
theorem dX11_by_1 : decode cX11_by 1 = .ok (.getfield 7, 3) := by decide +kernel
theorem dX11_by_4 : decode cX11_by 4 = .ok (.ireturn, 1) := by decide +kernel
abbrev cX11_init : ByteArray := prog_15_method_1_code
def yX11_init : MethodName := ⟨RX11, "<init>", "(I)V"⟩
def dkwX11_init_0 : List UInt8 := [42, 183, 0, 1, 42, 27, 181, 0, 7, 177]
abbrev dktX11_init_0 : List UInt8 := dkwX11_init_0 ++ []
theorem dksX11_init_0 : cX11_init.data.toList.drop 0 = dktX11_init_0 := by decide +kernel
theorem dX11_init_0 : decode cX11_init 0 = .ok (.aload_n 0, 1) := dk_42 (dk_at dksX11_init_0 0 rfl rfl)
theorem dX11_init_1 : decode cX11_init 1 = .ok (.invokespecial 1, 3) := dk_183 0 1 (dk_at dksX11_init_0 1 rfl rfl)
theorem dX11_init_4 : decode cX11_init 4 = .ok (.aload_n 0, 1) := dk_42 (dk_at dksX11_init_0 4 rfl rfl)
theorem dX11_init_5 : decode cX11_init 5 = .ok (.iload_n 1, 1) := dk_27 (dk_at dksX11_init_0 5 rfl rfl)
theorem dX11_init_6 : decode cX11_init 6 = .ok (.putfield 7, 3) := dk_181 0 7 (dk_at dksX11_init_0 6 rfl rfl)
theorem dX11_init_9 : decode cX11_init 9 = .ok (.return_, 1) := dk_177 (dk_at dksX11_init_0 9 rfl rfl)
theorem q139 : (Jvm.Cond.initialized "TableTower$Told") ∈ lw_all := lw_g (lw_at lw_m1 33 rfl) rfl
theorem q631 : (Jvm.Cond.selects "TableTower$Told" ({ cls := "java/lang/Object", name := "getClass", desc := "()Ljava/lang/Class;" } : Jvm.MethodName) ({ cls := "java/lang/Object", name := "getClass", desc := "()Ljava/lang/Class;" } : Jvm.MethodName)) ∈ lw_all := lw_g (lw_at lw_m3 45 rfl) rfl
theorem q862 : (Jvm.Cond.instanceMethod ({ cls := "TableTower$Told", name := "by", desc := "(LTableTower$View;)I" } : Jvm.MethodName)) ∈ lw_all := lw_g (lw_at lw_m4 36 rfl) rfl
theorem q863 : (Jvm.Cond.code ({ cls := "TableTower$Told", name := "by", desc := "(LTableTower$View;)I" } : Jvm.MethodName) prog_15_method_2_code (2 : Nat) (Option.some Jvm.ClassFile.FieldType.int)) ∈ lw_all := lw_g (lw_at lw_m4 37 rfl) rfl
theorem q866 : (Jvm.Cond.selects "TableTower$Told" ({ cls := "TableTower$Expr", name := "by", desc := "(LTableTower$View;)I" } : Jvm.MethodName) ({ cls := "TableTower$Told", name := "by", desc := "(LTableTower$View;)I" } : Jvm.MethodName)) ∈ lw_all := lw_g (lw_at lw_m4 40 rfl) rfl
theorem q1336 : (Jvm.Cond.instantiable "TableTower$Told" (1 : Nat)) ∈ lw_all := lw_g (lw_at lw_m6 30 rfl) rfl
theorem q1338 : (Jvm.Cond.instanceMethod ({ cls := "TableTower$Told", name := "<init>", desc := "(I)V" } : Jvm.MethodName)) ∈ lw_all := lw_g (lw_at lw_m6 32 rfl) rfl
theorem q1339 : (Jvm.Cond.code ({ cls := "TableTower$Told", name := "<init>", desc := "(I)V" } : Jvm.MethodName) prog_15_method_1_code (2 : Nat) (Option.none : Option Jvm.ClassFile.FieldType)) ∈ lw_all := lw_g (lw_at lw_m6 33 rfl) rfl
theorem q1340 : (Jvm.Cond.methodLinkNest "TableTower$Told" (1 : Nat) ({ cls := "TableTower$Expr", name := "<init>", desc := "()V" } : Jvm.MethodName) "TableTower") ∈ lw_tbl := lw_at lw_m6 34 rfl
theorem q1344 : (Jvm.Cond.fieldLink "TableTower$Told" (7 : Nat) "TableTower$Told" "n" "I") ∈ lw_all := lw_g (lw_at lw_m6 38 rfl) rfl
theorem q1345 : (Jvm.Cond.laysFinal "TableTower$Told" "TableTower$Told" "n" "I") ∈ lw_all := lw_g (lw_at lw_m6 39 rfl) rfl
theorem q1346 : (Jvm.Cond.soleField "TableTower$Told" "n") ∈ lw_all := lw_g (lw_at lw_m6 40 rfl) rfl
theorem q1347 : (Jvm.Cond.superclass "TableTower$Told" "TableTower$Expr") ∈ lw_all := lw_g (lw_at lw_m6 41 rfl) rfl
theorem q2406 : (Jvm.Cond.castable "TableTower$Told" "java/lang/Object") ∈ lw_tbl := lw_at lw_m10 140 rfl
theorem in_X11 : ∀ w ∈ wsX110, w ∈ lw_all := lw_in wsX110 [1345] (by decide +kernel) (by decide +kernel)
/-! TableTower$Seen -/
set_option maxRecDepth 100000
def RX12 : String := "TableTower$Seen"
def TX12 : u_T := fun k => match k with
  | _ => ("TableTower$Seen", "value", "LTableTower$Value;", true)
def tyX12 : Nat → FieldType := fun k => match k with
  | _ => .object "TableTower$Value"
abbrev wsX120 : List Cond := u_ws RX12 TX12 1
theorem nmX12 : ∀ a, a < 1 → ∀ b, b < 1 → a ≠ b → (TX12 a).2.1 ≠ (TX12 b).2.1 := by decide +kernel
theorem tyX12_ok : ∀ k, k < 1 → parseFieldDescriptor (TX12 k).2.2.1 = some (tyX12 k) := by decide +kernel
abbrev cX12_by : ByteArray := prog_12_method_2_code
def yX12_by : MethodName := ⟨RX12, "by", "(LTableTower$View;)I"⟩
def dkwX12_by_0 : List UInt8 := [43, 180, 0, 13, 42, 180, 0, 7, 182, 0, 19, 46, 172]
abbrev dktX12_by_0 : List UInt8 := dkwX12_by_0 ++ []
theorem dksX12_by_0 : cX12_by.data.toList.drop 0 = dktX12_by_0 := by decide +kernel
theorem dX12_by_0 : decode cX12_by 0 = .ok (.aload_n 1, 1) := dk_43 (dk_at dksX12_by_0 0 rfl rfl)
theorem dX12_by_1 : decode cX12_by 1 = .ok (.getfield 13, 3) := dk_180 0 13 (dk_at dksX12_by_0 1 rfl rfl)
theorem dX12_by_4 : decode cX12_by 4 = .ok (.aload_n 0, 1) := dk_42 (dk_at dksX12_by_0 4 rfl rfl)
theorem dX12_by_5 : decode cX12_by 5 = .ok (.getfield 7, 3) := dk_180 0 7 (dk_at dksX12_by_0 5 rfl rfl)
theorem dX12_by_8 : decode cX12_by 8 = .ok (.invokevirtual 19, 3) := dk_182 0 19 (dk_at dksX12_by_0 8 rfl rfl)
theorem dX12_by_11 : decode cX12_by 11 = .ok (.iaload, 1) := dk_46 (dk_at dksX12_by_0 11 rfl rfl)
theorem dX12_by_12 : decode cX12_by 12 = .ok (.ireturn, 1) := dk_172 (dk_at dksX12_by_0 12 rfl rfl)
abbrev cX12_init : ByteArray := prog_12_method_1_code
def yX12_init : MethodName := ⟨RX12, "<init>", "(LTableTower$Value;)V"⟩
def dkwX12_init_0 : List UInt8 := [42, 183, 0, 1, 42, 43, 181, 0, 7, 177]
abbrev dktX12_init_0 : List UInt8 := dkwX12_init_0 ++ []
theorem dksX12_init_0 : cX12_init.data.toList.drop 0 = dktX12_init_0 := by decide +kernel
theorem dX12_init_0 : decode cX12_init 0 = .ok (.aload_n 0, 1) := dk_42 (dk_at dksX12_init_0 0 rfl rfl)
theorem dX12_init_1 : decode cX12_init 1 = .ok (.invokespecial 1, 3) := dk_183 0 1 (dk_at dksX12_init_0 1 rfl rfl)
theorem dX12_init_4 : decode cX12_init 4 = .ok (.aload_n 0, 1) := dk_42 (dk_at dksX12_init_0 4 rfl rfl)
theorem dX12_init_5 : decode cX12_init 5 = .ok (.aload_n 1, 1) := dk_43 (dk_at dksX12_init_0 5 rfl rfl)
theorem dX12_init_6 : decode cX12_init 6 = .ok (.putfield 7, 3) := dk_181 0 7 (dk_at dksX12_init_0 6 rfl rfl)
theorem dX12_init_9 : decode cX12_init 9 = .ok (.return_, 1) := dk_177 (dk_at dksX12_init_0 9 rfl rfl)
theorem q140 : (Jvm.Cond.initialized "TableTower$Seen") ∈ lw_all := lw_g (lw_at lw_m1 34 rfl) rfl
theorem q520 : (Jvm.Cond.fieldLinkNest "TableTower$Seen" (13 : Nat) "TableTower$View" "of" "[I" "TableTower") ∈ lw_tbl := lw_at lw_m2 174 rfl
theorem q628 : (Jvm.Cond.selects "TableTower$Seen" ({ cls := "java/lang/Object", name := "getClass", desc := "()Ljava/lang/Class;" } : Jvm.MethodName) ({ cls := "java/lang/Object", name := "getClass", desc := "()Ljava/lang/Class;" } : Jvm.MethodName)) ∈ lw_all := lw_g (lw_at lw_m3 42 rfl) rfl
theorem q859 : (Jvm.Cond.instanceMethod ({ cls := "TableTower$Seen", name := "by", desc := "(LTableTower$View;)I" } : Jvm.MethodName)) ∈ lw_all := lw_g (lw_at lw_m4 33 rfl) rfl
theorem q860 : (Jvm.Cond.code ({ cls := "TableTower$Seen", name := "by", desc := "(LTableTower$View;)I" } : Jvm.MethodName) prog_12_method_2_code (2 : Nat) (Option.some Jvm.ClassFile.FieldType.int)) ∈ lw_all := lw_g (lw_at lw_m4 34 rfl) rfl
theorem q861 : (Jvm.Cond.methodLink "TableTower$Seen" (19 : Nat) ({ cls := "TableTower$Value", name := "ordinal", desc := "()I" } : Jvm.MethodName)) ∈ lw_all := lw_g (lw_at lw_m4 35 rfl) rfl
theorem q865 : (Jvm.Cond.selects "TableTower$Seen" ({ cls := "TableTower$Expr", name := "by", desc := "(LTableTower$View;)I" } : Jvm.MethodName) ({ cls := "TableTower$Seen", name := "by", desc := "(LTableTower$View;)I" } : Jvm.MethodName)) ∈ lw_all := lw_g (lw_at lw_m4 39 rfl) rfl
theorem q1369 : (Jvm.Cond.instantiable "TableTower$Seen" (1 : Nat)) ∈ lw_all := lw_g (lw_at lw_m6 63 rfl) rfl
theorem q1371 : (Jvm.Cond.instanceMethod ({ cls := "TableTower$Seen", name := "<init>", desc := "(LTableTower$Value;)V" } : Jvm.MethodName)) ∈ lw_all := lw_g (lw_at lw_m6 65 rfl) rfl
theorem q1372 : (Jvm.Cond.code ({ cls := "TableTower$Seen", name := "<init>", desc := "(LTableTower$Value;)V" } : Jvm.MethodName) prog_12_method_1_code (2 : Nat) (Option.none : Option Jvm.ClassFile.FieldType)) ∈ lw_all := lw_g (lw_at lw_m6 66 rfl) rfl
theorem q1373 : (Jvm.Cond.methodLinkNest "TableTower$Seen" (1 : Nat) ({ cls := "TableTower$Expr", name := "<init>", desc := "()V" } : Jvm.MethodName) "TableTower") ∈ lw_tbl := lw_at lw_m6 67 rfl
theorem q1374 : (Jvm.Cond.fieldLink "TableTower$Seen" (7 : Nat) "TableTower$Seen" "value" "LTableTower$Value;") ∈ lw_all := lw_g (lw_at lw_m6 68 rfl) rfl
theorem q1375 : (Jvm.Cond.laysFinal "TableTower$Seen" "TableTower$Seen" "value" "LTableTower$Value;") ∈ lw_all := lw_g (lw_at lw_m6 69 rfl) rfl
theorem q1376 : (Jvm.Cond.soleField "TableTower$Seen" "value") ∈ lw_all := lw_g (lw_at lw_m6 70 rfl) rfl
theorem q1377 : (Jvm.Cond.superclass "TableTower$Seen" "TableTower$Expr") ∈ lw_all := lw_g (lw_at lw_m6 71 rfl) rfl
theorem q2407 : (Jvm.Cond.castable "TableTower$Seen" "java/lang/Object") ∈ lw_tbl := lw_at lw_m10 141 rfl
theorem in_X12 : ∀ w ∈ wsX120, w ∈ lw_all := lw_in wsX120 [1375] (by decide +kernel) (by decide +kernel)
/-! TableTower$Both -/
set_option maxRecDepth 100000
def RX13 : String := "TableTower$Both"
def TX13 : u_T := fun k => match k with
  | 0 => ("TableTower$Both", "act", "C", true)
  | 1 => ("TableTower$Both", "left", "LTableTower$Expr;", true)
  | _ => ("TableTower$Both", "right", "LTableTower$Expr;", true)
def tyX13 : Nat → FieldType := fun k => match k with
  | 0 => .char
  | 1 => .object "TableTower$Expr"
  | _ => .object "TableTower$Expr"
abbrev wsX130 : List Cond := u_ws RX13 TX13 3
theorem nmX13 : ∀ a, a < 3 → ∀ b, b < 3 → a ≠ b → (TX13 a).2.1 ≠ (TX13 b).2.1 := by decide +kernel
theorem tyX13_ok : ∀ k, k < 3 → parseFieldDescriptor (TX13 k).2.2.1 = some (tyX13 k) := by decide +kernel
abbrev cX13_by : ByteArray := prog_3_method_2_code
def yX13_by : MethodName := ⟨RX13, "by", "(LTableTower$View;)I"⟩
def dkwX13_by_5 : List UInt8 := [167, 0, 4, 3, 172]
abbrev dktX13_by_5 : List UInt8 := dkwX13_by_5 ++ []
def dkwX13_by_4 : List UInt8 := [153, 0, 11, 29, 153, 0, 7, 4, 167, 0, 4, 3, 172, 28, 154, 0, 7, 29, 153, 0, 7, 4]
abbrev dktX13_by_4 : List UInt8 := dkwX13_by_4 ++ dktX13_by_5
def dkwX13_by_3 : List UInt8 := [28, 29, 162, 0, 7, 4, 167, 0, 4, 3, 172, 28, 29, 160, 0, 7, 4, 167, 0, 4, 3, 172, 28]
abbrev dktX13_by_3 : List UInt8 := dkwX13_by_3 ++ dktX13_by_4
def dkwX13_by_2 : List UInt8 := [28, 29, 96, 172, 28, 29, 100, 172, 28, 29, 104, 172, 29, 154, 0, 7, 3, 167, 0, 6, 28, 29, 108, 172]
abbrev dktX13_by_2 : List UInt8 := dkwX13_by_2 ++ dktX13_by_3
def dkwX13_by_1 : List UInt8 := [170, 0, 0, 0, 0, 170, 0, 0, 0, 38, 0, 0, 0, 61, 0, 0, 0, 156, 0, 0, 0, 170, 0, 0, 0, 170, 0, 0, 0, 170, 0, 0, 0, 118, 0, 0, 0, 110, 0, 0, 0, 170, 0, 0, 0, 114, 0, 0, 0, 170, 0, 0, 0, 122, 0, 0, 0, 170, 0, 0, 0, 170, 0, 0, 0, 170, 0, 0, 0, 170, 0, 0, 0, 170, 0, 0, 0, 170, 0, 0, 0, 170, 0, 0, 0, 170, 0, 0, 0, 170, 0, 0, 0, 170, 0, 0, 0, 170, 0, 0, 0, 170, 0, 0, 0, 134, 0, 0, 0, 145]
abbrev dktX13_by_1 : List UInt8 := dkwX13_by_1 ++ dktX13_by_2
def dkwX13_by_0 : List UInt8 := [42, 180, 0, 13, 43, 182, 0, 20, 61, 42, 180, 0, 17, 43, 182, 0, 20, 62, 42, 180, 0, 7]
abbrev dktX13_by_0 : List UInt8 := dkwX13_by_0 ++ dktX13_by_1
theorem dksX13_by_0 : cX13_by.data.toList.drop 0 = dktX13_by_0 := by decide +kernel
theorem dksX13_by_1 : cX13_by.data.toList.drop 22 = dktX13_by_1 := dk_seg dksX13_by_0 22 rfl rfl
theorem dksX13_by_2 : cX13_by.data.toList.drop 132 = dktX13_by_2 := dk_seg dksX13_by_1 110 rfl rfl
theorem dksX13_by_3 : cX13_by.data.toList.drop 156 = dktX13_by_3 := dk_seg dksX13_by_2 24 rfl rfl
theorem dksX13_by_4 : cX13_by.data.toList.drop 179 = dktX13_by_4 := dk_seg dksX13_by_3 23 rfl rfl
theorem dksX13_by_5 : cX13_by.data.toList.drop 201 = dktX13_by_5 := dk_seg dksX13_by_4 22 rfl rfl
theorem dX13_by_0 : decode cX13_by 0 = .ok (.aload_n 0, 1) := dk_42 (dk_at dksX13_by_0 0 rfl rfl)
theorem dX13_by_1 : decode cX13_by 1 = .ok (.getfield 13, 3) := dk_180 0 13 (dk_at dksX13_by_0 1 rfl rfl)
theorem dX13_by_4 : decode cX13_by 4 = .ok (.aload_n 1, 1) := dk_43 (dk_at dksX13_by_0 4 rfl rfl)
theorem dX13_by_5 : decode cX13_by 5 = .ok (.invokevirtual 20, 3) := dk_182 0 20 (dk_at dksX13_by_0 5 rfl rfl)
theorem dX13_by_8 : decode cX13_by 8 = .ok (.istore_n 2, 1) := dk_61 (dk_at dksX13_by_0 8 rfl rfl)
theorem dX13_by_9 : decode cX13_by 9 = .ok (.aload_n 0, 1) := dk_42 (dk_at dksX13_by_0 9 rfl rfl)
theorem dX13_by_10 : decode cX13_by 10 = .ok (.getfield 17, 3) := dk_180 0 17 (dk_at dksX13_by_0 10 rfl rfl)
theorem dX13_by_13 : decode cX13_by 13 = .ok (.aload_n 1, 1) := dk_43 (dk_at dksX13_by_0 13 rfl rfl)
theorem dX13_by_14 : decode cX13_by 14 = .ok (.invokevirtual 20, 3) := dk_182 0 20 (dk_at dksX13_by_0 14 rfl rfl)
theorem dX13_by_17 : decode cX13_by 17 = .ok (.istore_n 3, 1) := dk_62 (dk_at dksX13_by_0 17 rfl rfl)
theorem dX13_by_18 : decode cX13_by 18 = .ok (.aload_n 0, 1) := dk_42 (dk_at dksX13_by_0 18 rfl rfl)
theorem dX13_by_19 : decode cX13_by 19 = .ok (.getfield 7, 3) := dk_180 0 7 (dk_at dksX13_by_0 19 rfl rfl)
theorem dX13_by_22 : decode cX13_by 22 = .ok (.tableswitch 170 38 61 #[156, 170, 170, 170, 118, 110, 170, 114, 170, 122, 170, 170, 170, 170, 170, 170, 170, 170, 170, 170, 170, 170, 134, 145], 110) := by decide +kernel
theorem dX13_by_132 : decode cX13_by 132 = .ok (.iload_n 2, 1) := dk_28 (dk_at dksX13_by_2 0 rfl rfl)
theorem dX13_by_133 : decode cX13_by 133 = .ok (.iload_n 3, 1) := dk_29 (dk_at dksX13_by_2 1 rfl rfl)
theorem dX13_by_134 : decode cX13_by 134 = .ok (.iadd, 1) := dk_96 (dk_at dksX13_by_2 2 rfl rfl)
theorem dX13_by_135 : decode cX13_by 135 = .ok (.ireturn, 1) := dk_172 (dk_at dksX13_by_2 3 rfl rfl)
theorem dX13_by_136 : decode cX13_by 136 = .ok (.iload_n 2, 1) := dk_28 (dk_at dksX13_by_2 4 rfl rfl)
theorem dX13_by_137 : decode cX13_by 137 = .ok (.iload_n 3, 1) := dk_29 (dk_at dksX13_by_2 5 rfl rfl)
theorem dX13_by_138 : decode cX13_by 138 = .ok (.isub, 1) := dk_100 (dk_at dksX13_by_2 6 rfl rfl)
theorem dX13_by_139 : decode cX13_by 139 = .ok (.ireturn, 1) := dk_172 (dk_at dksX13_by_2 7 rfl rfl)
theorem dX13_by_140 : decode cX13_by 140 = .ok (.iload_n 2, 1) := dk_28 (dk_at dksX13_by_2 8 rfl rfl)
theorem dX13_by_141 : decode cX13_by 141 = .ok (.iload_n 3, 1) := dk_29 (dk_at dksX13_by_2 9 rfl rfl)
theorem dX13_by_142 : decode cX13_by 142 = .ok (.imul, 1) := dk_104 (dk_at dksX13_by_2 10 rfl rfl)
theorem dX13_by_143 : decode cX13_by 143 = .ok (.ireturn, 1) := dk_172 (dk_at dksX13_by_2 11 rfl rfl)
theorem dX13_by_144 : decode cX13_by 144 = .ok (.iload_n 3, 1) := dk_29 (dk_at dksX13_by_2 12 rfl rfl)
theorem dX13_by_145 : decode cX13_by 145 = .ok (.ifCond .ne 7, 3) := dk_154 0 7 (dk_at dksX13_by_2 13 rfl rfl)
theorem dX13_by_148 : decode cX13_by 148 = .ok (.iconst 0, 1) := dk_3 (dk_at dksX13_by_2 16 rfl rfl)
theorem dX13_by_149 : decode cX13_by 149 = .ok (.goto 6, 3) := dk_167 0 6 (dk_at dksX13_by_2 17 rfl rfl)
theorem dX13_by_152 : decode cX13_by 152 = .ok (.iload_n 2, 1) := dk_28 (dk_at dksX13_by_2 20 rfl rfl)
theorem dX13_by_153 : decode cX13_by 153 = .ok (.iload_n 3, 1) := dk_29 (dk_at dksX13_by_2 21 rfl rfl)
theorem dX13_by_154 : decode cX13_by 154 = .ok (.idiv, 1) := dk_108 (dk_at dksX13_by_2 22 rfl rfl)
theorem dX13_by_155 : decode cX13_by 155 = .ok (.ireturn, 1) := dk_172 (dk_at dksX13_by_2 23 rfl rfl)
theorem dX13_by_156 : decode cX13_by 156 = .ok (.iload_n 2, 1) := dk_28 (dk_at dksX13_by_3 0 rfl rfl)
theorem dX13_by_157 : decode cX13_by 157 = .ok (.iload_n 3, 1) := dk_29 (dk_at dksX13_by_3 1 rfl rfl)
theorem dX13_by_158 : decode cX13_by 158 = .ok (.if_icmp .ge 7, 3) := dk_162 0 7 (dk_at dksX13_by_3 2 rfl rfl)
theorem dX13_by_161 : decode cX13_by 161 = .ok (.iconst 1, 1) := dk_4 (dk_at dksX13_by_3 5 rfl rfl)
theorem dX13_by_162 : decode cX13_by 162 = .ok (.goto 4, 3) := dk_167 0 4 (dk_at dksX13_by_3 6 rfl rfl)
theorem dX13_by_165 : decode cX13_by 165 = .ok (.iconst 0, 1) := dk_3 (dk_at dksX13_by_3 9 rfl rfl)
theorem dX13_by_166 : decode cX13_by 166 = .ok (.ireturn, 1) := dk_172 (dk_at dksX13_by_3 10 rfl rfl)
theorem dX13_by_167 : decode cX13_by 167 = .ok (.iload_n 2, 1) := dk_28 (dk_at dksX13_by_3 11 rfl rfl)
theorem dX13_by_168 : decode cX13_by 168 = .ok (.iload_n 3, 1) := dk_29 (dk_at dksX13_by_3 12 rfl rfl)
theorem dX13_by_169 : decode cX13_by 169 = .ok (.if_icmp .ne 7, 3) := dk_160 0 7 (dk_at dksX13_by_3 13 rfl rfl)
theorem dX13_by_172 : decode cX13_by 172 = .ok (.iconst 1, 1) := dk_4 (dk_at dksX13_by_3 16 rfl rfl)
theorem dX13_by_173 : decode cX13_by 173 = .ok (.goto 4, 3) := dk_167 0 4 (dk_at dksX13_by_3 17 rfl rfl)
theorem dX13_by_176 : decode cX13_by 176 = .ok (.iconst 0, 1) := dk_3 (dk_at dksX13_by_3 20 rfl rfl)
theorem dX13_by_177 : decode cX13_by 177 = .ok (.ireturn, 1) := dk_172 (dk_at dksX13_by_3 21 rfl rfl)
theorem dX13_by_178 : decode cX13_by 178 = .ok (.iload_n 2, 1) := dk_28 (dk_at dksX13_by_3 22 rfl rfl)
theorem dX13_by_179 : decode cX13_by 179 = .ok (.ifCond .eq 11, 3) := dk_153 0 11 (dk_at dksX13_by_4 0 rfl rfl)
theorem dX13_by_182 : decode cX13_by 182 = .ok (.iload_n 3, 1) := dk_29 (dk_at dksX13_by_4 3 rfl rfl)
theorem dX13_by_183 : decode cX13_by 183 = .ok (.ifCond .eq 7, 3) := dk_153 0 7 (dk_at dksX13_by_4 4 rfl rfl)
theorem dX13_by_186 : decode cX13_by 186 = .ok (.iconst 1, 1) := dk_4 (dk_at dksX13_by_4 7 rfl rfl)
theorem dX13_by_187 : decode cX13_by 187 = .ok (.goto 4, 3) := dk_167 0 4 (dk_at dksX13_by_4 8 rfl rfl)
theorem dX13_by_190 : decode cX13_by 190 = .ok (.iconst 0, 1) := dk_3 (dk_at dksX13_by_4 11 rfl rfl)
theorem dX13_by_191 : decode cX13_by 191 = .ok (.ireturn, 1) := dk_172 (dk_at dksX13_by_4 12 rfl rfl)
theorem dX13_by_192 : decode cX13_by 192 = .ok (.iload_n 2, 1) := dk_28 (dk_at dksX13_by_4 13 rfl rfl)
theorem dX13_by_193 : decode cX13_by 193 = .ok (.ifCond .ne 7, 3) := dk_154 0 7 (dk_at dksX13_by_4 14 rfl rfl)
theorem dX13_by_196 : decode cX13_by 196 = .ok (.iload_n 3, 1) := dk_29 (dk_at dksX13_by_4 17 rfl rfl)
theorem dX13_by_197 : decode cX13_by 197 = .ok (.ifCond .eq 7, 3) := dk_153 0 7 (dk_at dksX13_by_4 18 rfl rfl)
theorem dX13_by_200 : decode cX13_by 200 = .ok (.iconst 1, 1) := dk_4 (dk_at dksX13_by_4 21 rfl rfl)
theorem dX13_by_201 : decode cX13_by 201 = .ok (.goto 4, 3) := dk_167 0 4 (dk_at dksX13_by_5 0 rfl rfl)
theorem dX13_by_204 : decode cX13_by 204 = .ok (.iconst 0, 1) := dk_3 (dk_at dksX13_by_5 3 rfl rfl)
theorem dX13_by_205 : decode cX13_by 205 = .ok (.ireturn, 1) := dk_172 (dk_at dksX13_by_5 4 rfl rfl)
abbrev cX13_init : ByteArray := prog_3_method_1_code
def yX13_init : MethodName := ⟨RX13, "<init>", "(CLTableTower$Expr;LTableTower$Expr;)V"⟩
def dkwX13_init_0 : List UInt8 := [42, 183, 0, 1, 42, 27, 181, 0, 7, 42, 44, 181, 0, 13, 42, 45, 181, 0, 17, 177]
abbrev dktX13_init_0 : List UInt8 := dkwX13_init_0 ++ []
theorem dksX13_init_0 : cX13_init.data.toList.drop 0 = dktX13_init_0 := by decide +kernel
theorem dX13_init_0 : decode cX13_init 0 = .ok (.aload_n 0, 1) := dk_42 (dk_at dksX13_init_0 0 rfl rfl)
theorem dX13_init_1 : decode cX13_init 1 = .ok (.invokespecial 1, 3) := dk_183 0 1 (dk_at dksX13_init_0 1 rfl rfl)
theorem dX13_init_4 : decode cX13_init 4 = .ok (.aload_n 0, 1) := dk_42 (dk_at dksX13_init_0 4 rfl rfl)
theorem dX13_init_5 : decode cX13_init 5 = .ok (.iload_n 1, 1) := dk_27 (dk_at dksX13_init_0 5 rfl rfl)
theorem dX13_init_6 : decode cX13_init 6 = .ok (.putfield 7, 3) := dk_181 0 7 (dk_at dksX13_init_0 6 rfl rfl)
theorem dX13_init_9 : decode cX13_init 9 = .ok (.aload_n 0, 1) := dk_42 (dk_at dksX13_init_0 9 rfl rfl)
theorem dX13_init_10 : decode cX13_init 10 = .ok (.aload_n 2, 1) := dk_44 (dk_at dksX13_init_0 10 rfl rfl)
theorem dX13_init_11 : decode cX13_init 11 = .ok (.putfield 13, 3) := dk_181 0 13 (dk_at dksX13_init_0 11 rfl rfl)
theorem dX13_init_14 : decode cX13_init 14 = .ok (.aload_n 0, 1) := dk_42 (dk_at dksX13_init_0 14 rfl rfl)
theorem dX13_init_15 : decode cX13_init 15 = .ok (.aload_n 3, 1) := dk_45 (dk_at dksX13_init_0 15 rfl rfl)
theorem dX13_init_16 : decode cX13_init 16 = .ok (.putfield 17, 3) := dk_181 0 17 (dk_at dksX13_init_0 16 rfl rfl)
theorem dX13_init_19 : decode cX13_init 19 = .ok (.return_, 1) := dk_177 (dk_at dksX13_init_0 19 rfl rfl)
theorem q141 : (Jvm.Cond.initialized "TableTower$Both") ∈ lw_all := lw_g (lw_at lw_m1 35 rfl) rfl
theorem q620 : (Jvm.Cond.selects "TableTower$Both" ({ cls := "java/lang/Object", name := "getClass", desc := "()Ljava/lang/Class;" } : Jvm.MethodName) ({ cls := "java/lang/Object", name := "getClass", desc := "()Ljava/lang/Class;" } : Jvm.MethodName)) ∈ lw_all := lw_g (lw_at lw_m3 34 rfl) rfl
theorem q852 : (Jvm.Cond.selects "TableTower$Both" ({ cls := "TableTower$Expr", name := "by", desc := "(LTableTower$View;)I" } : Jvm.MethodName) ({ cls := "TableTower$Both", name := "by", desc := "(LTableTower$View;)I" } : Jvm.MethodName)) ∈ lw_all := lw_g (lw_at lw_m4 26 rfl) rfl
theorem q853 : (Jvm.Cond.instanceMethod ({ cls := "TableTower$Both", name := "by", desc := "(LTableTower$View;)I" } : Jvm.MethodName)) ∈ lw_all := lw_g (lw_at lw_m4 27 rfl) rfl
theorem q854 : (Jvm.Cond.code ({ cls := "TableTower$Both", name := "by", desc := "(LTableTower$View;)I" } : Jvm.MethodName) prog_3_method_2_code (4 : Nat) (Option.some Jvm.ClassFile.FieldType.int)) ∈ lw_all := lw_g (lw_at lw_m4 28 rfl) rfl
theorem q855 : (Jvm.Cond.methodLink "TableTower$Both" (20 : Nat) ({ cls := "TableTower$Expr", name := "by", desc := "(LTableTower$View;)I" } : Jvm.MethodName)) ∈ lw_all := lw_g (lw_at lw_m4 29 rfl) rfl
theorem q1396 : (Jvm.Cond.instantiable "TableTower$Both" (3 : Nat)) ∈ lw_all := lw_g (lw_at lw_m6 90 rfl) rfl
theorem q1398 : (Jvm.Cond.instanceMethod ({ cls := "TableTower$Both", name := "<init>", desc := "(CLTableTower$Expr;LTableTower$Expr;)V" } : Jvm.MethodName)) ∈ lw_all := lw_g (lw_at lw_m6 92 rfl) rfl
theorem q1399 : (Jvm.Cond.code ({ cls := "TableTower$Both", name := "<init>", desc := "(CLTableTower$Expr;LTableTower$Expr;)V" } : Jvm.MethodName) prog_3_method_1_code (4 : Nat) (Option.none : Option Jvm.ClassFile.FieldType)) ∈ lw_all := lw_g (lw_at lw_m6 93 rfl) rfl
theorem q1400 : (Jvm.Cond.methodLinkNest "TableTower$Both" (1 : Nat) ({ cls := "TableTower$Expr", name := "<init>", desc := "()V" } : Jvm.MethodName) "TableTower") ∈ lw_tbl := lw_at lw_m6 94 rfl
theorem q1401 : (Jvm.Cond.fieldLink "TableTower$Both" (7 : Nat) "TableTower$Both" "act" "C") ∈ lw_all := lw_g (lw_at lw_m6 95 rfl) rfl
theorem q1402 : (Jvm.Cond.fieldLink "TableTower$Both" (13 : Nat) "TableTower$Both" "left" "LTableTower$Expr;") ∈ lw_all := lw_g (lw_at lw_m6 96 rfl) rfl
theorem q1403 : (Jvm.Cond.fieldLink "TableTower$Both" (17 : Nat) "TableTower$Both" "right" "LTableTower$Expr;") ∈ lw_all := lw_g (lw_at lw_m6 97 rfl) rfl
theorem q1404 : (Jvm.Cond.laysFinal "TableTower$Both" "TableTower$Both" "act" "C") ∈ lw_all := lw_g (lw_at lw_m6 98 rfl) rfl
theorem q1405 : (Jvm.Cond.soleField "TableTower$Both" "act") ∈ lw_all := lw_g (lw_at lw_m6 99 rfl) rfl
theorem q1406 : (Jvm.Cond.laysFinal "TableTower$Both" "TableTower$Both" "left" "LTableTower$Expr;") ∈ lw_all := lw_g (lw_at lw_m6 100 rfl) rfl
theorem q1407 : (Jvm.Cond.soleField "TableTower$Both" "left") ∈ lw_all := lw_g (lw_at lw_m6 101 rfl) rfl
theorem q1408 : (Jvm.Cond.laysFinal "TableTower$Both" "TableTower$Both" "right" "LTableTower$Expr;") ∈ lw_all := lw_g (lw_at lw_m6 102 rfl) rfl
theorem q1409 : (Jvm.Cond.soleField "TableTower$Both" "right") ∈ lw_all := lw_g (lw_at lw_m6 103 rfl) rfl
theorem q1410 : (Jvm.Cond.superclass "TableTower$Both" "TableTower$Expr") ∈ lw_all := lw_g (lw_at lw_m6 104 rfl) rfl
theorem q2408 : (Jvm.Cond.castable "TableTower$Both" "java/lang/Object") ∈ lw_tbl := lw_at lw_m10 142 rfl
theorem in_X13 : ∀ w ∈ wsX130, w ∈ lw_all := lw_in wsX130 [1404, 1406, 1408] (by decide +kernel) (by decide +kernel)
/-! TableTower$Not -/
set_option maxRecDepth 100000
def RX14 : String := "TableTower$Not"
def TX14 : u_T := fun k => match k with
  | _ => ("TableTower$Not", "part", "LTableTower$Expr;", true)
def tyX14 : Nat → FieldType := fun k => match k with
  | _ => .object "TableTower$Expr"
abbrev wsX140 : List Cond := u_ws RX14 TX14 1
theorem nmX14 : ∀ a, a < 1 → ∀ b, b < 1 → a ≠ b → (TX14 a).2.1 ≠ (TX14 b).2.1 := by decide +kernel
theorem tyX14_ok : ∀ k, k < 1 → parseFieldDescriptor (TX14 k).2.2.1 = some (tyX14 k) := by decide +kernel
abbrev cX14_by : ByteArray := prog_8_method_2_code
def yX14_by : MethodName := ⟨RX14, "by", "(LTableTower$View;)I"⟩
def dkwX14_by_0 : List UInt8 := [42, 180, 0, 7, 43, 182, 0, 13, 154, 0, 7, 4, 167, 0, 4, 3, 172]
abbrev dktX14_by_0 : List UInt8 := dkwX14_by_0 ++ []
theorem dksX14_by_0 : cX14_by.data.toList.drop 0 = dktX14_by_0 := by decide +kernel
theorem dX14_by_0 : decode cX14_by 0 = .ok (.aload_n 0, 1) := dk_42 (dk_at dksX14_by_0 0 rfl rfl)
theorem dX14_by_1 : decode cX14_by 1 = .ok (.getfield 7, 3) := dk_180 0 7 (dk_at dksX14_by_0 1 rfl rfl)
theorem dX14_by_4 : decode cX14_by 4 = .ok (.aload_n 1, 1) := dk_43 (dk_at dksX14_by_0 4 rfl rfl)
theorem dX14_by_5 : decode cX14_by 5 = .ok (.invokevirtual 13, 3) := dk_182 0 13 (dk_at dksX14_by_0 5 rfl rfl)
theorem dX14_by_8 : decode cX14_by 8 = .ok (.ifCond .ne 7, 3) := dk_154 0 7 (dk_at dksX14_by_0 8 rfl rfl)
theorem dX14_by_11 : decode cX14_by 11 = .ok (.iconst 1, 1) := dk_4 (dk_at dksX14_by_0 11 rfl rfl)
theorem dX14_by_12 : decode cX14_by 12 = .ok (.goto 4, 3) := dk_167 0 4 (dk_at dksX14_by_0 12 rfl rfl)
theorem dX14_by_15 : decode cX14_by 15 = .ok (.iconst 0, 1) := dk_3 (dk_at dksX14_by_0 15 rfl rfl)
theorem dX14_by_16 : decode cX14_by 16 = .ok (.ireturn, 1) := dk_172 (dk_at dksX14_by_0 16 rfl rfl)
abbrev cX14_init : ByteArray := prog_8_method_1_code
def yX14_init : MethodName := ⟨RX14, "<init>", "(LTableTower$Expr;)V"⟩
def dkwX14_init_0 : List UInt8 := [42, 183, 0, 1, 42, 43, 181, 0, 7, 177]
abbrev dktX14_init_0 : List UInt8 := dkwX14_init_0 ++ []
theorem dksX14_init_0 : cX14_init.data.toList.drop 0 = dktX14_init_0 := by decide +kernel
theorem dX14_init_0 : decode cX14_init 0 = .ok (.aload_n 0, 1) := dk_42 (dk_at dksX14_init_0 0 rfl rfl)
theorem dX14_init_1 : decode cX14_init 1 = .ok (.invokespecial 1, 3) := dk_183 0 1 (dk_at dksX14_init_0 1 rfl rfl)
theorem dX14_init_4 : decode cX14_init 4 = .ok (.aload_n 0, 1) := dk_42 (dk_at dksX14_init_0 4 rfl rfl)
theorem dX14_init_5 : decode cX14_init 5 = .ok (.aload_n 1, 1) := dk_43 (dk_at dksX14_init_0 5 rfl rfl)
theorem dX14_init_6 : decode cX14_init 6 = .ok (.putfield 7, 3) := dk_181 0 7 (dk_at dksX14_init_0 6 rfl rfl)
theorem dX14_init_9 : decode cX14_init 9 = .ok (.return_, 1) := dk_177 (dk_at dksX14_init_0 9 rfl rfl)
theorem q142 : (Jvm.Cond.initialized "TableTower$Not") ∈ lw_all := lw_g (lw_at lw_m1 36 rfl) rfl
theorem q624 : (Jvm.Cond.selects "TableTower$Not" ({ cls := "java/lang/Object", name := "getClass", desc := "()Ljava/lang/Class;" } : Jvm.MethodName) ({ cls := "java/lang/Object", name := "getClass", desc := "()Ljava/lang/Class;" } : Jvm.MethodName)) ∈ lw_all := lw_g (lw_at lw_m3 38 rfl) rfl
theorem q856 : (Jvm.Cond.instanceMethod ({ cls := "TableTower$Not", name := "by", desc := "(LTableTower$View;)I" } : Jvm.MethodName)) ∈ lw_all := lw_g (lw_at lw_m4 30 rfl) rfl
theorem q857 : (Jvm.Cond.code ({ cls := "TableTower$Not", name := "by", desc := "(LTableTower$View;)I" } : Jvm.MethodName) prog_8_method_2_code (2 : Nat) (Option.some Jvm.ClassFile.FieldType.int)) ∈ lw_all := lw_g (lw_at lw_m4 31 rfl) rfl
theorem q858 : (Jvm.Cond.methodLink "TableTower$Not" (13 : Nat) ({ cls := "TableTower$Expr", name := "by", desc := "(LTableTower$View;)I" } : Jvm.MethodName)) ∈ lw_all := lw_g (lw_at lw_m4 32 rfl) rfl
theorem q864 : (Jvm.Cond.selects "TableTower$Not" ({ cls := "TableTower$Expr", name := "by", desc := "(LTableTower$View;)I" } : Jvm.MethodName) ({ cls := "TableTower$Not", name := "by", desc := "(LTableTower$View;)I" } : Jvm.MethodName)) ∈ lw_all := lw_g (lw_at lw_m4 38 rfl) rfl
theorem q1416 : (Jvm.Cond.instantiable "TableTower$Not" (1 : Nat)) ∈ lw_all := lw_g (lw_at lw_m6 110 rfl) rfl
theorem q1418 : (Jvm.Cond.instanceMethod ({ cls := "TableTower$Not", name := "<init>", desc := "(LTableTower$Expr;)V" } : Jvm.MethodName)) ∈ lw_all := lw_g (lw_at lw_m6 112 rfl) rfl
theorem q1419 : (Jvm.Cond.code ({ cls := "TableTower$Not", name := "<init>", desc := "(LTableTower$Expr;)V" } : Jvm.MethodName) prog_8_method_1_code (2 : Nat) (Option.none : Option Jvm.ClassFile.FieldType)) ∈ lw_all := lw_g (lw_at lw_m6 113 rfl) rfl
theorem q1420 : (Jvm.Cond.methodLinkNest "TableTower$Not" (1 : Nat) ({ cls := "TableTower$Expr", name := "<init>", desc := "()V" } : Jvm.MethodName) "TableTower") ∈ lw_tbl := lw_at lw_m6 114 rfl
theorem q1421 : (Jvm.Cond.fieldLink "TableTower$Not" (7 : Nat) "TableTower$Not" "part" "LTableTower$Expr;") ∈ lw_all := lw_g (lw_at lw_m6 115 rfl) rfl
theorem q1422 : (Jvm.Cond.laysFinal "TableTower$Not" "TableTower$Not" "part" "LTableTower$Expr;") ∈ lw_all := lw_g (lw_at lw_m6 116 rfl) rfl
theorem q1423 : (Jvm.Cond.soleField "TableTower$Not" "part") ∈ lw_all := lw_g (lw_at lw_m6 117 rfl) rfl
theorem q1424 : (Jvm.Cond.superclass "TableTower$Not" "TableTower$Expr") ∈ lw_all := lw_g (lw_at lw_m6 118 rfl) rfl
theorem q2409 : (Jvm.Cond.castable "TableTower$Not" "java/lang/Object") ∈ lw_tbl := lw_at lw_m10 143 rfl
theorem in_X14 : ∀ w ∈ wsX140, w ∈ lw_all := lw_in wsX140 [1422] (by decide +kernel) (by decide +kernel)
/-! TableTower$Pine -/
set_option maxRecDepth 100000
def RX15 : String := "TableTower$Pine"
def TX15 : u_T := fun k => match k with
  | 0 => ("TableTower$Pine", "weight", "I", true)
  | 1 => ("TableTower$Pine", "bears", "I", true)
  | 2 => ("TableTower$Pine", "lean", "I", true)
  | _ => ("TableTower$Pine", "hunger", "I", true)
def tyX15 : Nat → FieldType := fun k => match k with
  | 0 => .int
  | 1 => .int
  | 2 => .int
  | _ => .int
abbrev wsX150 : List Cond := u_ws RX15 TX15 4
theorem nmX15 : ∀ a, a < 4 → ∀ b, b < 4 → a ≠ b → (TX15 a).2.1 ≠ (TX15 b).2.1 := by decide +kernel
theorem tyX15_ok : ∀ k, k < 4 → parseFieldDescriptor (TX15 k).2.2.1 = some (tyX15 k) := by decide +kernel
abbrev cX15_kind : ByteArray := prog_10_method_2_code
def yX15_kind : MethodName := ⟨RX15, "kind", "()I"⟩
theorem dX15_kind_0 : decode cX15_kind 0 = .ok (.iconst 0, 1) := by decide +kernel
theorem dX15_kind_1 : decode cX15_kind 1 = .ok (.ireturn, 1) := by decide +kernel
abbrev cX15_carriesBy : ByteArray := prog_10_method_7_code
def yX15_carriesBy : MethodName := ⟨RX15, "carriesBy", "(IZ)I"⟩
def dkwX15_carriesBy_0 : List UInt8 := [3, 42, 42, 180, 0, 13, 28, 182, 0, 32, 27, 42, 182, 0, 22, 104, 100, 184, 0, 26, 172]
abbrev dktX15_carriesBy_0 : List UInt8 := dkwX15_carriesBy_0 ++ []
theorem dksX15_carriesBy_0 : cX15_carriesBy.data.toList.drop 0 = dktX15_carriesBy_0 := by decide +kernel
theorem dX15_carriesBy_0 : decode cX15_carriesBy 0 = .ok (.iconst 0, 1) := dk_3 (dk_at dksX15_carriesBy_0 0 rfl rfl)
theorem dX15_carriesBy_1 : decode cX15_carriesBy 1 = .ok (.aload_n 0, 1) := dk_42 (dk_at dksX15_carriesBy_0 1 rfl rfl)
theorem dX15_carriesBy_2 : decode cX15_carriesBy 2 = .ok (.aload_n 0, 1) := dk_42 (dk_at dksX15_carriesBy_0 2 rfl rfl)
theorem dX15_carriesBy_3 : decode cX15_carriesBy 3 = .ok (.getfield 13, 3) := dk_180 0 13 (dk_at dksX15_carriesBy_0 3 rfl rfl)
theorem dX15_carriesBy_6 : decode cX15_carriesBy 6 = .ok (.iload_n 2, 1) := dk_28 (dk_at dksX15_carriesBy_0 6 rfl rfl)
theorem dX15_carriesBy_7 : decode cX15_carriesBy 7 = .ok (.invokevirtual 32, 3) := dk_182 0 32 (dk_at dksX15_carriesBy_0 7 rfl rfl)
theorem dX15_carriesBy_10 : decode cX15_carriesBy 10 = .ok (.iload_n 1, 1) := dk_27 (dk_at dksX15_carriesBy_0 10 rfl rfl)
theorem dX15_carriesBy_11 : decode cX15_carriesBy 11 = .ok (.aload_n 0, 1) := dk_42 (dk_at dksX15_carriesBy_0 11 rfl rfl)
theorem dX15_carriesBy_12 : decode cX15_carriesBy 12 = .ok (.invokevirtual 22, 3) := dk_182 0 22 (dk_at dksX15_carriesBy_0 12 rfl rfl)
theorem dX15_carriesBy_15 : decode cX15_carriesBy 15 = .ok (.imul, 1) := dk_104 (dk_at dksX15_carriesBy_0 15 rfl rfl)
theorem dX15_carriesBy_16 : decode cX15_carriesBy 16 = .ok (.isub, 1) := dk_100 (dk_at dksX15_carriesBy_0 16 rfl rfl)
theorem dX15_carriesBy_17 : decode cX15_carriesBy 17 = .ok (.invokestatic 26, 3) := dk_184 0 26 (dk_at dksX15_carriesBy_0 17 rfl rfl)
theorem dX15_carriesBy_20 : decode cX15_carriesBy 20 = .ok (.ireturn, 1) := dk_172 (dk_at dksX15_carriesBy_0 20 rfl rfl)
abbrev cX15_carries : ByteArray := prog_10_method_4_code
def yX15_carries : MethodName := ⟨RX15, "carries", "(IZ)I"⟩
theorem dX15_carries_0 : decode cX15_carries 0 = .ok (.iload_n 1, 1) := by decide +kernel
theorem dX15_carries_1 : decode cX15_carries 1 = .ok (.ireturn, 1) := by decide +kernel
abbrev cX15_worm : ByteArray := prog_10_method_3_code
def yX15_worm : MethodName := ⟨RX15, "worm", "()I"⟩
theorem dX15_worm_0 : decode cX15_worm 0 = .ok (.iconst 3, 1) := by decide +kernel
theorem dX15_worm_1 : decode cX15_worm 1 = .ok (.ireturn, 1) := by decide +kernel
abbrev cX15_times : ByteArray := prog_10_method_5_code
def yX15_times : MethodName := ⟨RX15, "times", "()I"⟩
theorem dX15_times_0 : decode cX15_times 0 = .ok (.iconst 1, 1) := by decide +kernel
theorem dX15_times_1 : decode cX15_times 1 = .ok (.ireturn, 1) := by decide +kernel
abbrev cX15_init : ByteArray := prog_10_method_1_code
def yX15_init : MethodName := ⟨RX15, "<init>", "(IIII)V"⟩
def dkwX15_init_1 : List UInt8 := [181, 0, 19, 177]
abbrev dktX15_init_1 : List UInt8 := dkwX15_init_1 ++ []
def dkwX15_init_0 : List UInt8 := [42, 183, 0, 1, 42, 27, 181, 0, 7, 42, 28, 181, 0, 13, 42, 29, 181, 0, 16, 42, 21, 4]
abbrev dktX15_init_0 : List UInt8 := dkwX15_init_0 ++ dktX15_init_1
theorem dksX15_init_0 : cX15_init.data.toList.drop 0 = dktX15_init_0 := by decide +kernel
theorem dksX15_init_1 : cX15_init.data.toList.drop 22 = dktX15_init_1 := dk_seg dksX15_init_0 22 rfl rfl
theorem dX15_init_0 : decode cX15_init 0 = .ok (.aload_n 0, 1) := dk_42 (dk_at dksX15_init_0 0 rfl rfl)
theorem dX15_init_1 : decode cX15_init 1 = .ok (.invokespecial 1, 3) := dk_183 0 1 (dk_at dksX15_init_0 1 rfl rfl)
theorem dX15_init_4 : decode cX15_init 4 = .ok (.aload_n 0, 1) := dk_42 (dk_at dksX15_init_0 4 rfl rfl)
theorem dX15_init_5 : decode cX15_init 5 = .ok (.iload_n 1, 1) := dk_27 (dk_at dksX15_init_0 5 rfl rfl)
theorem dX15_init_6 : decode cX15_init 6 = .ok (.putfield 7, 3) := dk_181 0 7 (dk_at dksX15_init_0 6 rfl rfl)
theorem dX15_init_9 : decode cX15_init 9 = .ok (.aload_n 0, 1) := dk_42 (dk_at dksX15_init_0 9 rfl rfl)
theorem dX15_init_10 : decode cX15_init 10 = .ok (.iload_n 2, 1) := dk_28 (dk_at dksX15_init_0 10 rfl rfl)
theorem dX15_init_11 : decode cX15_init 11 = .ok (.putfield 13, 3) := dk_181 0 13 (dk_at dksX15_init_0 11 rfl rfl)
theorem dX15_init_14 : decode cX15_init 14 = .ok (.aload_n 0, 1) := dk_42 (dk_at dksX15_init_0 14 rfl rfl)
theorem dX15_init_15 : decode cX15_init 15 = .ok (.iload_n 3, 1) := dk_29 (dk_at dksX15_init_0 15 rfl rfl)
theorem dX15_init_16 : decode cX15_init 16 = .ok (.putfield 16, 3) := dk_181 0 16 (dk_at dksX15_init_0 16 rfl rfl)
theorem dX15_init_19 : decode cX15_init 19 = .ok (.aload_n 0, 1) := dk_42 (dk_at dksX15_init_0 19 rfl rfl)
theorem dX15_init_20 : decode cX15_init 20 = .ok (.iload 4, 2) := dk_21 4 (dk_at dksX15_init_0 20 rfl rfl)
theorem dX15_init_22 : decode cX15_init 22 = .ok (.putfield 19, 3) := dk_181 0 19 (dk_at dksX15_init_1 0 rfl rfl)
theorem dX15_init_25 : decode cX15_init 25 = .ok (.return_, 1) := dk_177 (dk_at dksX15_init_1 3 rfl rfl)
abbrev cX15_bearing : ByteArray := prog_10_method_6_code
def yX15_bearing : MethodName := ⟨RX15, "bearing", "(I)I"⟩
def dkwX15_bearing_0 : List UInt8 := [3, 42, 180, 0, 13, 27, 42, 182, 0, 22, 104, 100, 184, 0, 26, 172]
abbrev dktX15_bearing_0 : List UInt8 := dkwX15_bearing_0 ++ []
theorem dksX15_bearing_0 : cX15_bearing.data.toList.drop 0 = dktX15_bearing_0 := by decide +kernel
theorem dX15_bearing_0 : decode cX15_bearing 0 = .ok (.iconst 0, 1) := dk_3 (dk_at dksX15_bearing_0 0 rfl rfl)
theorem dX15_bearing_1 : decode cX15_bearing 1 = .ok (.aload_n 0, 1) := dk_42 (dk_at dksX15_bearing_0 1 rfl rfl)
theorem dX15_bearing_2 : decode cX15_bearing 2 = .ok (.getfield 13, 3) := dk_180 0 13 (dk_at dksX15_bearing_0 2 rfl rfl)
theorem dX15_bearing_5 : decode cX15_bearing 5 = .ok (.iload_n 1, 1) := dk_27 (dk_at dksX15_bearing_0 5 rfl rfl)
theorem dX15_bearing_6 : decode cX15_bearing 6 = .ok (.aload_n 0, 1) := dk_42 (dk_at dksX15_bearing_0 6 rfl rfl)
theorem dX15_bearing_7 : decode cX15_bearing 7 = .ok (.invokevirtual 22, 3) := dk_182 0 22 (dk_at dksX15_bearing_0 7 rfl rfl)
theorem dX15_bearing_10 : decode cX15_bearing 10 = .ok (.imul, 1) := dk_104 (dk_at dksX15_bearing_0 10 rfl rfl)
theorem dX15_bearing_11 : decode cX15_bearing 11 = .ok (.isub, 1) := dk_100 (dk_at dksX15_bearing_0 11 rfl rfl)
theorem dX15_bearing_12 : decode cX15_bearing 12 = .ok (.invokestatic 26, 3) := dk_184 0 26 (dk_at dksX15_bearing_0 12 rfl rfl)
theorem dX15_bearing_15 : decode cX15_bearing 15 = .ok (.ireturn, 1) := dk_172 (dk_at dksX15_bearing_0 15 rfl rfl)
theorem q143 : (Jvm.Cond.initialized "TableTower$Pine") ∈ lw_all := lw_g (lw_at lw_m1 37 rfl) rfl
theorem q626 : (Jvm.Cond.selects "TableTower$Pine" ({ cls := "java/lang/Object", name := "getClass", desc := "()Ljava/lang/Class;" } : Jvm.MethodName) ({ cls := "java/lang/Object", name := "getClass", desc := "()Ljava/lang/Class;" } : Jvm.MethodName)) ∈ lw_all := lw_g (lw_at lw_m3 40 rfl) rfl
theorem q828 : (Jvm.Cond.instanceMethod ({ cls := "TableTower$Pine", name := "kind", desc := "()I" } : Jvm.MethodName)) ∈ lw_all := lw_g (lw_at lw_m4 2 rfl) rfl
theorem q829 : (Jvm.Cond.selects "TableTower$Pine" ({ cls := "TableTower$Pine", name := "kind", desc := "()I" } : Jvm.MethodName) ({ cls := "TableTower$Pine", name := "kind", desc := "()I" } : Jvm.MethodName)) ∈ lw_all := lw_g (lw_at lw_m4 3 rfl) rfl
theorem q830 : (Jvm.Cond.sameMethod "TableTower$Pine" "TableTower$Pine" "kind" "()I") ∈ lw_all := lw_g (lw_at lw_m4 4 rfl) rfl
theorem q844 : (Jvm.Cond.code ({ cls := "TableTower$Pine", name := "kind", desc := "()I" } : Jvm.MethodName) prog_10_method_2_code (1 : Nat) (Option.some Jvm.ClassFile.FieldType.int)) ∈ lw_all := lw_g (lw_at lw_m4 18 rfl) rfl
theorem q918 : (Jvm.Cond.instanceMethod ({ cls := "TableTower$Pine", name := "carriesBy", desc := "(IZ)I" } : Jvm.MethodName)) ∈ lw_all := lw_g (lw_at lw_m4 92 rfl) rfl
theorem q919 : (Jvm.Cond.selects "TableTower$Pine" ({ cls := "TableTower$Pine", name := "carriesBy", desc := "(IZ)I" } : Jvm.MethodName) ({ cls := "TableTower$Pine", name := "carriesBy", desc := "(IZ)I" } : Jvm.MethodName)) ∈ lw_all := lw_g (lw_at lw_m4 93 rfl) rfl
theorem q920 : (Jvm.Cond.sameMethod "TableTower$Pine" "TableTower$Pine" "carriesBy" "(IZ)I") ∈ lw_all := lw_g (lw_at lw_m4 94 rfl) rfl
theorem q924 : (Jvm.Cond.code ({ cls := "TableTower$Pine", name := "carriesBy", desc := "(IZ)I" } : Jvm.MethodName) prog_10_method_7_code (3 : Nat) (Option.some Jvm.ClassFile.FieldType.int)) ∈ lw_all := lw_g (lw_at lw_m4 98 rfl) rfl
theorem q925 : (Jvm.Cond.methodLink "TableTower$Pine" (32 : Nat) ({ cls := "TableTower$Pine", name := "carries", desc := "(IZ)I" } : Jvm.MethodName)) ∈ lw_all := lw_g (lw_at lw_m4 99 rfl) rfl
theorem q926 : (Jvm.Cond.instanceMethod ({ cls := "TableTower$Pine", name := "carries", desc := "(IZ)I" } : Jvm.MethodName)) ∈ lw_all := lw_g (lw_at lw_m4 100 rfl) rfl
theorem q927 : (Jvm.Cond.selects "TableTower$Pine" ({ cls := "TableTower$Pine", name := "carries", desc := "(IZ)I" } : Jvm.MethodName) ({ cls := "TableTower$Pine", name := "carries", desc := "(IZ)I" } : Jvm.MethodName)) ∈ lw_all := lw_g (lw_at lw_m4 101 rfl) rfl
theorem q928 : (Jvm.Cond.sameMethod "TableTower$Pine" "TableTower$Pine" "carries" "(IZ)I") ∈ lw_all := lw_g (lw_at lw_m4 102 rfl) rfl
theorem q937 : (Jvm.Cond.code ({ cls := "TableTower$Pine", name := "carries", desc := "(IZ)I" } : Jvm.MethodName) prog_10_method_4_code (3 : Nat) (Option.some Jvm.ClassFile.FieldType.int)) ∈ lw_all := lw_g (lw_at lw_m4 111 rfl) rfl
theorem q940 : (Jvm.Cond.methodLink "TableTower$Pine" (22 : Nat) ({ cls := "TableTower$Pine", name := "worm", desc := "()I" } : Jvm.MethodName)) ∈ lw_all := lw_g (lw_at lw_m4 114 rfl) rfl
theorem q941 : (Jvm.Cond.instanceMethod ({ cls := "TableTower$Pine", name := "worm", desc := "()I" } : Jvm.MethodName)) ∈ lw_all := lw_g (lw_at lw_m4 115 rfl) rfl
theorem q942 : (Jvm.Cond.selects "TableTower$Pine" ({ cls := "TableTower$Pine", name := "worm", desc := "()I" } : Jvm.MethodName) ({ cls := "TableTower$Pine", name := "worm", desc := "()I" } : Jvm.MethodName)) ∈ lw_all := lw_g (lw_at lw_m4 116 rfl) rfl
theorem q943 : (Jvm.Cond.sameMethod "TableTower$Pine" "TableTower$Pine" "worm" "()I") ∈ lw_all := lw_g (lw_at lw_m4 117 rfl) rfl
theorem q948 : (Jvm.Cond.code ({ cls := "TableTower$Pine", name := "worm", desc := "()I" } : Jvm.MethodName) prog_10_method_3_code (1 : Nat) (Option.some Jvm.ClassFile.FieldType.int)) ∈ lw_all := lw_g (lw_at lw_m4 122 rfl) rfl
theorem q954 : (Jvm.Cond.methodLink "TableTower$Pine" (26 : Nat) ({ cls := "java/lang/Math", name := "max", desc := "(II)I" } : Jvm.MethodName)) ∈ lw_all := lw_g (lw_at lw_m4 128 rfl) rfl
theorem q964 : (Jvm.Cond.instanceMethod ({ cls := "TableTower$Pine", name := "times", desc := "()I" } : Jvm.MethodName)) ∈ lw_all := lw_g (lw_at lw_m4 138 rfl) rfl
theorem q965 : (Jvm.Cond.selects "TableTower$Pine" ({ cls := "TableTower$Pine", name := "times", desc := "()I" } : Jvm.MethodName) ({ cls := "TableTower$Pine", name := "times", desc := "()I" } : Jvm.MethodName)) ∈ lw_all := lw_g (lw_at lw_m4 139 rfl) rfl
theorem q966 : (Jvm.Cond.sameMethod "TableTower$Pine" "TableTower$Pine" "times" "()I") ∈ lw_all := lw_g (lw_at lw_m4 140 rfl) rfl
theorem q972 : (Jvm.Cond.declares ({ cls := "TableTower$Pine", name := "times", desc := "()I" } : Jvm.MethodName)) ∈ lw_tbl := lw_at lw_m4 146 rfl
theorem q973 : (Jvm.Cond.code ({ cls := "TableTower$Pine", name := "times", desc := "()I" } : Jvm.MethodName) prog_10_method_5_code (1 : Nat) (Option.some Jvm.ClassFile.FieldType.int)) ∈ lw_all := lw_g (lw_at lw_m4 147 rfl) rfl
theorem q1437 : (Jvm.Cond.instantiable "TableTower$Pine" (4 : Nat)) ∈ lw_all := lw_g (lw_at lw_m6 131 rfl) rfl
theorem q1439 : (Jvm.Cond.instanceMethod ({ cls := "TableTower$Pine", name := "<init>", desc := "(IIII)V" } : Jvm.MethodName)) ∈ lw_all := lw_g (lw_at lw_m6 133 rfl) rfl
theorem q1440 : (Jvm.Cond.code ({ cls := "TableTower$Pine", name := "<init>", desc := "(IIII)V" } : Jvm.MethodName) prog_10_method_1_code (5 : Nat) (Option.none : Option Jvm.ClassFile.FieldType)) ∈ lw_all := lw_g (lw_at lw_m6 134 rfl) rfl
theorem q1441 : (Jvm.Cond.methodLink "TableTower$Pine" (1 : Nat) ({ cls := "java/lang/Object", name := "<init>", desc := "()V" } : Jvm.MethodName)) ∈ lw_all := lw_g (lw_at lw_m6 135 rfl) rfl
theorem q1442 : (Jvm.Cond.fieldLink "TableTower$Pine" (7 : Nat) "TableTower$Pine" "weight" "I") ∈ lw_all := lw_g (lw_at lw_m6 136 rfl) rfl
theorem q1446 : (Jvm.Cond.fieldLink "TableTower$Pine" (13 : Nat) "TableTower$Pine" "bears" "I") ∈ lw_all := lw_g (lw_at lw_m6 140 rfl) rfl
theorem q1447 : (Jvm.Cond.fieldLink "TableTower$Pine" (16 : Nat) "TableTower$Pine" "lean" "I") ∈ lw_all := lw_g (lw_at lw_m6 141 rfl) rfl
theorem q1449 : (Jvm.Cond.fieldLink "TableTower$Pine" (19 : Nat) "TableTower$Pine" "hunger" "I") ∈ lw_all := lw_g (lw_at lw_m6 143 rfl) rfl
theorem q1453 : (Jvm.Cond.laysFinal "TableTower$Pine" "TableTower$Pine" "weight" "I") ∈ lw_all := lw_g (lw_at lw_m6 147 rfl) rfl
theorem q1454 : (Jvm.Cond.soleField "TableTower$Pine" "weight") ∈ lw_all := lw_g (lw_at lw_m6 148 rfl) rfl
theorem q1455 : (Jvm.Cond.laysFinal "TableTower$Pine" "TableTower$Pine" "bears" "I") ∈ lw_all := lw_g (lw_at lw_m6 149 rfl) rfl
theorem q1456 : (Jvm.Cond.soleField "TableTower$Pine" "bears") ∈ lw_all := lw_g (lw_at lw_m6 150 rfl) rfl
theorem q1457 : (Jvm.Cond.laysFinal "TableTower$Pine" "TableTower$Pine" "lean" "I") ∈ lw_all := lw_g (lw_at lw_m6 151 rfl) rfl
theorem q1458 : (Jvm.Cond.soleField "TableTower$Pine" "lean") ∈ lw_all := lw_g (lw_at lw_m6 152 rfl) rfl
theorem q1459 : (Jvm.Cond.laysFinal "TableTower$Pine" "TableTower$Pine" "hunger" "I") ∈ lw_all := lw_g (lw_at lw_m6 153 rfl) rfl
theorem q1460 : (Jvm.Cond.soleField "TableTower$Pine" "hunger") ∈ lw_all := lw_g (lw_at lw_m6 154 rfl) rfl
theorem q1461 : (Jvm.Cond.superclass "TableTower$Pine" "java/lang/Object") ∈ lw_all := lw_g (lw_at lw_m6 155 rfl) rfl
theorem q1534 : (Jvm.Cond.instanceMethod ({ cls := "TableTower$Pine", name := "bearing", desc := "(I)I" } : Jvm.MethodName)) ∈ lw_all := lw_g (lw_at lw_m6 228 rfl) rfl
theorem q1535 : (Jvm.Cond.selects "TableTower$Pine" ({ cls := "TableTower$Pine", name := "bearing", desc := "(I)I" } : Jvm.MethodName) ({ cls := "TableTower$Pine", name := "bearing", desc := "(I)I" } : Jvm.MethodName)) ∈ lw_all := lw_g (lw_at lw_m6 229 rfl) rfl
theorem q1536 : (Jvm.Cond.sameMethod "TableTower$Pine" "TableTower$Pine" "bearing" "(I)I") ∈ lw_all := lw_g (lw_at lw_m6 230 rfl) rfl
theorem q1540 : (Jvm.Cond.code ({ cls := "TableTower$Pine", name := "bearing", desc := "(I)I" } : Jvm.MethodName) prog_10_method_6_code (2 : Nat) (Option.some Jvm.ClassFile.FieldType.int)) ∈ lw_all := lw_g (lw_at lw_m6 234 rfl) rfl
theorem q2410 : (Jvm.Cond.castable "TableTower$Pine" "java/lang/Object") ∈ lw_tbl := lw_at lw_m10 144 rfl
theorem in_X15 : ∀ w ∈ wsX150, w ∈ lw_all := lw_in wsX150 [1453, 1455, 1457, 1459] (by decide +kernel) (by decide +kernel)
/-! TableTower$Oak -/
set_option maxRecDepth 100000
def RX16 : String := "TableTower$Oak"
def TX16 : u_T := fun k => match k with
  | 0 => ("TableTower$Pine", "weight", "I", true)
  | 1 => ("TableTower$Pine", "bears", "I", true)
  | 2 => ("TableTower$Pine", "lean", "I", true)
  | _ => ("TableTower$Pine", "hunger", "I", true)
def tyX16 : Nat → FieldType := fun k => match k with
  | 0 => .int
  | 1 => .int
  | 2 => .int
  | _ => .int
abbrev wsX160 : List Cond := u_ws RX16 TX16 4
theorem nmX16 : ∀ a, a < 4 → ∀ b, b < 4 → a ≠ b → (TX16 a).2.1 ≠ (TX16 b).2.1 := by decide +kernel
theorem tyX16_ok : ∀ k, k < 4 → parseFieldDescriptor (TX16 k).2.2.1 = some (tyX16 k) := by decide +kernel
abbrev cX16_kind : ByteArray := prog_9_method_2_code
def yX16_kind : MethodName := ⟨RX16, "kind", "()I"⟩
def dkwX16_kind_0 : List UInt8 := [42, 183, 0, 7, 4, 96, 172]
abbrev dktX16_kind_0 : List UInt8 := dkwX16_kind_0 ++ []
theorem dksX16_kind_0 : cX16_kind.data.toList.drop 0 = dktX16_kind_0 := by decide +kernel
theorem dX16_kind_0 : decode cX16_kind 0 = .ok (.aload_n 0, 1) := dk_42 (dk_at dksX16_kind_0 0 rfl rfl)
theorem dX16_kind_1 : decode cX16_kind 1 = .ok (.invokespecial 7, 3) := dk_183 0 7 (dk_at dksX16_kind_0 1 rfl rfl)
theorem dX16_kind_4 : decode cX16_kind 4 = .ok (.iconst 1, 1) := dk_4 (dk_at dksX16_kind_0 4 rfl rfl)
theorem dX16_kind_5 : decode cX16_kind 5 = .ok (.iadd, 1) := dk_96 (dk_at dksX16_kind_0 5 rfl rfl)
theorem dX16_kind_6 : decode cX16_kind 6 = .ok (.ireturn, 1) := dk_172 (dk_at dksX16_kind_0 6 rfl rfl)
abbrev cX16_worm : ByteArray := prog_9_method_3_code
def yX16_worm : MethodName := ⟨RX16, "worm", "()I"⟩
def dkwX16_worm_0 : List UInt8 := [42, 183, 0, 11, 5, 100, 172]
abbrev dktX16_worm_0 : List UInt8 := dkwX16_worm_0 ++ []
theorem dksX16_worm_0 : cX16_worm.data.toList.drop 0 = dktX16_worm_0 := by decide +kernel
theorem dX16_worm_0 : decode cX16_worm 0 = .ok (.aload_n 0, 1) := dk_42 (dk_at dksX16_worm_0 0 rfl rfl)
theorem dX16_worm_1 : decode cX16_worm 1 = .ok (.invokespecial 11, 3) := dk_183 0 11 (dk_at dksX16_worm_0 1 rfl rfl)
theorem dX16_worm_4 : decode cX16_worm 4 = .ok (.iconst 2, 1) := dk_5 (dk_at dksX16_worm_0 4 rfl rfl)
theorem dX16_worm_5 : decode cX16_worm 5 = .ok (.isub, 1) := dk_100 (dk_at dksX16_worm_0 5 rfl rfl)
theorem dX16_worm_6 : decode cX16_worm 6 = .ok (.ireturn, 1) := dk_172 (dk_at dksX16_worm_0 6 rfl rfl)
abbrev cX16_init : ByteArray := prog_9_method_1_code
def yX16_init : MethodName := ⟨RX16, "<init>", "(IIII)V"⟩
def dkwX16_init_0 : List UInt8 := [42, 27, 28, 29, 21, 4, 183, 0, 1, 177]
abbrev dktX16_init_0 : List UInt8 := dkwX16_init_0 ++ []
theorem dksX16_init_0 : cX16_init.data.toList.drop 0 = dktX16_init_0 := by decide +kernel
theorem dX16_init_0 : decode cX16_init 0 = .ok (.aload_n 0, 1) := dk_42 (dk_at dksX16_init_0 0 rfl rfl)
theorem dX16_init_1 : decode cX16_init 1 = .ok (.iload_n 1, 1) := dk_27 (dk_at dksX16_init_0 1 rfl rfl)
theorem dX16_init_2 : decode cX16_init 2 = .ok (.iload_n 2, 1) := dk_28 (dk_at dksX16_init_0 2 rfl rfl)
theorem dX16_init_3 : decode cX16_init 3 = .ok (.iload_n 3, 1) := dk_29 (dk_at dksX16_init_0 3 rfl rfl)
theorem dX16_init_4 : decode cX16_init 4 = .ok (.iload 4, 2) := dk_21 4 (dk_at dksX16_init_0 4 rfl rfl)
theorem dX16_init_6 : decode cX16_init 6 = .ok (.invokespecial 1, 3) := dk_183 0 1 (dk_at dksX16_init_0 6 rfl rfl)
theorem dX16_init_9 : decode cX16_init 9 = .ok (.return_, 1) := dk_177 (dk_at dksX16_init_0 9 rfl rfl)
theorem q144 : (Jvm.Cond.initialized "TableTower$Oak") ∈ lw_all := lw_g (lw_at lw_m1 38 rfl) rfl
theorem q625 : (Jvm.Cond.selects "TableTower$Oak" ({ cls := "java/lang/Object", name := "getClass", desc := "()Ljava/lang/Class;" } : Jvm.MethodName) ({ cls := "java/lang/Object", name := "getClass", desc := "()Ljava/lang/Class;" } : Jvm.MethodName)) ∈ lw_all := lw_g (lw_at lw_m3 39 rfl) rfl
theorem q839 : (Jvm.Cond.selects "TableTower$Oak" ({ cls := "TableTower$Pine", name := "kind", desc := "()I" } : Jvm.MethodName) ({ cls := "TableTower$Oak", name := "kind", desc := "()I" } : Jvm.MethodName)) ∈ lw_all := lw_g (lw_at lw_m4 13 rfl) rfl
theorem q840 : (Jvm.Cond.instanceMethod ({ cls := "TableTower$Oak", name := "kind", desc := "()I" } : Jvm.MethodName)) ∈ lw_all := lw_g (lw_at lw_m4 14 rfl) rfl
theorem q841 : (Jvm.Cond.code ({ cls := "TableTower$Oak", name := "kind", desc := "()I" } : Jvm.MethodName) prog_9_method_2_code (1 : Nat) (Option.some Jvm.ClassFile.FieldType.int)) ∈ lw_all := lw_g (lw_at lw_m4 15 rfl) rfl
theorem q842 : (Jvm.Cond.methodLink "TableTower$Oak" (7 : Nat) ({ cls := "TableTower$Pine", name := "kind", desc := "()I" } : Jvm.MethodName)) ∈ lw_all := lw_g (lw_at lw_m4 16 rfl) rfl
theorem q843 : (Jvm.Cond.superclass "TableTower$Oak" "TableTower$Pine") ∈ lw_all := lw_g (lw_at lw_m4 17 rfl) rfl
theorem q923 : (Jvm.Cond.selects "TableTower$Oak" ({ cls := "TableTower$Pine", name := "carriesBy", desc := "(IZ)I" } : Jvm.MethodName) ({ cls := "TableTower$Pine", name := "carriesBy", desc := "(IZ)I" } : Jvm.MethodName)) ∈ lw_all := lw_g (lw_at lw_m4 97 rfl) rfl
theorem q939 : (Jvm.Cond.selects "TableTower$Oak" ({ cls := "TableTower$Pine", name := "carries", desc := "(IZ)I" } : Jvm.MethodName) ({ cls := "TableTower$Pine", name := "carries", desc := "(IZ)I" } : Jvm.MethodName)) ∈ lw_all := lw_g (lw_at lw_m4 113 rfl) rfl
theorem q950 : (Jvm.Cond.selects "TableTower$Oak" ({ cls := "TableTower$Pine", name := "worm", desc := "()I" } : Jvm.MethodName) ({ cls := "TableTower$Oak", name := "worm", desc := "()I" } : Jvm.MethodName)) ∈ lw_all := lw_g (lw_at lw_m4 124 rfl) rfl
theorem q951 : (Jvm.Cond.instanceMethod ({ cls := "TableTower$Oak", name := "worm", desc := "()I" } : Jvm.MethodName)) ∈ lw_all := lw_g (lw_at lw_m4 125 rfl) rfl
theorem q952 : (Jvm.Cond.code ({ cls := "TableTower$Oak", name := "worm", desc := "()I" } : Jvm.MethodName) prog_9_method_3_code (1 : Nat) (Option.some Jvm.ClassFile.FieldType.int)) ∈ lw_all := lw_g (lw_at lw_m4 126 rfl) rfl
theorem q953 : (Jvm.Cond.methodLink "TableTower$Oak" (11 : Nat) ({ cls := "TableTower$Pine", name := "worm", desc := "()I" } : Jvm.MethodName)) ∈ lw_all := lw_g (lw_at lw_m4 127 rfl) rfl
theorem q975 : (Jvm.Cond.selects "TableTower$Oak" ({ cls := "TableTower$Pine", name := "times", desc := "()I" } : Jvm.MethodName) ({ cls := "TableTower$Pine", name := "times", desc := "()I" } : Jvm.MethodName)) ∈ lw_all := lw_g (lw_at lw_m4 149 rfl) rfl
theorem q1463 : (Jvm.Cond.instantiable "TableTower$Oak" (4 : Nat)) ∈ lw_all := lw_g (lw_at lw_m6 157 rfl) rfl
theorem q1465 : (Jvm.Cond.instanceMethod ({ cls := "TableTower$Oak", name := "<init>", desc := "(IIII)V" } : Jvm.MethodName)) ∈ lw_all := lw_g (lw_at lw_m6 159 rfl) rfl
theorem q1466 : (Jvm.Cond.code ({ cls := "TableTower$Oak", name := "<init>", desc := "(IIII)V" } : Jvm.MethodName) prog_9_method_1_code (5 : Nat) (Option.none : Option Jvm.ClassFile.FieldType)) ∈ lw_all := lw_g (lw_at lw_m6 160 rfl) rfl
theorem q1467 : (Jvm.Cond.methodLink "TableTower$Oak" (1 : Nat) ({ cls := "TableTower$Pine", name := "<init>", desc := "(IIII)V" } : Jvm.MethodName)) ∈ lw_all := lw_g (lw_at lw_m6 161 rfl) rfl
theorem q1468 : (Jvm.Cond.laysFinal "TableTower$Oak" "TableTower$Pine" "weight" "I") ∈ lw_all := lw_g (lw_at lw_m6 162 rfl) rfl
theorem q1469 : (Jvm.Cond.laysFinal "TableTower$Oak" "TableTower$Pine" "bears" "I") ∈ lw_all := lw_g (lw_at lw_m6 163 rfl) rfl
theorem q1470 : (Jvm.Cond.laysFinal "TableTower$Oak" "TableTower$Pine" "lean" "I") ∈ lw_all := lw_g (lw_at lw_m6 164 rfl) rfl
theorem q1471 : (Jvm.Cond.laysFinal "TableTower$Oak" "TableTower$Pine" "hunger" "I") ∈ lw_all := lw_g (lw_at lw_m6 165 rfl) rfl
theorem q1539 : (Jvm.Cond.selects "TableTower$Oak" ({ cls := "TableTower$Pine", name := "bearing", desc := "(I)I" } : Jvm.MethodName) ({ cls := "TableTower$Pine", name := "bearing", desc := "(I)I" } : Jvm.MethodName)) ∈ lw_all := lw_g (lw_at lw_m6 233 rfl) rfl
theorem q2391 : (Jvm.Cond.castable "TableTower$Oak" "TableTower$Pine") ∈ lw_tbl := lw_at lw_m10 125 rfl
theorem q2411 : (Jvm.Cond.castable "TableTower$Oak" "java/lang/Object") ∈ lw_tbl := lw_at lw_m10 145 rfl
theorem in_X16 : ∀ w ∈ wsX160, w ∈ lw_all := lw_in wsX160 [1468, 1469, 1470, 1471] (by decide +kernel) (by decide +kernel)
/-! TableTower$Folding -/
set_option maxRecDepth 100000
def RX17 : String := "TableTower$Folding"
def TX17 : u_T := fun k => match k with
  | 0 => ("TableTower$Pine", "weight", "I", true)
  | 1 => ("TableTower$Pine", "bears", "I", true)
  | 2 => ("TableTower$Pine", "lean", "I", true)
  | _ => ("TableTower$Pine", "hunger", "I", true)
def tyX17 : Nat → FieldType := fun k => match k with
  | 0 => .int
  | 1 => .int
  | 2 => .int
  | _ => .int
abbrev wsX170 : List Cond := u_ws RX17 TX17 4
theorem nmX17 : ∀ a, a < 4 → ∀ b, b < 4 → a ≠ b → (TX17 a).2.1 ≠ (TX17 b).2.1 := by decide +kernel
theorem tyX17_ok : ∀ k, k < 4 → parseFieldDescriptor (TX17 k).2.2.1 = some (tyX17 k) := by decide +kernel
abbrev cX17_kind : ByteArray := prog_7_method_2_code
def yX17_kind : MethodName := ⟨RX17, "kind", "()I"⟩
theorem dX17_kind_0 : decode cX17_kind 0 = .ok (.iconst 2, 1) := by decide +kernel
theorem dX17_kind_1 : decode cX17_kind 1 = .ok (.ireturn, 1) := by decide +kernel
abbrev cX17_carries : ByteArray := prog_7_method_4_code
def yX17_carries : MethodName := ⟨RX17, "carries", "(IZ)I"⟩
def dkwX17_carries_0 : List UInt8 := [28, 153, 0, 12, 42, 27, 4, 183, 0, 11, 167, 0, 11, 42, 27, 5, 108, 3, 183, 0, 11, 172]
abbrev dktX17_carries_0 : List UInt8 := dkwX17_carries_0 ++ []
theorem dksX17_carries_0 : cX17_carries.data.toList.drop 0 = dktX17_carries_0 := by decide +kernel
theorem dX17_carries_0 : decode cX17_carries 0 = .ok (.iload_n 2, 1) := dk_28 (dk_at dksX17_carries_0 0 rfl rfl)
theorem dX17_carries_1 : decode cX17_carries 1 = .ok (.ifCond .eq 12, 3) := dk_153 0 12 (dk_at dksX17_carries_0 1 rfl rfl)
theorem dX17_carries_4 : decode cX17_carries 4 = .ok (.aload_n 0, 1) := dk_42 (dk_at dksX17_carries_0 4 rfl rfl)
theorem dX17_carries_5 : decode cX17_carries 5 = .ok (.iload_n 1, 1) := dk_27 (dk_at dksX17_carries_0 5 rfl rfl)
theorem dX17_carries_6 : decode cX17_carries 6 = .ok (.iconst 1, 1) := dk_4 (dk_at dksX17_carries_0 6 rfl rfl)
theorem dX17_carries_7 : decode cX17_carries 7 = .ok (.invokespecial 11, 3) := dk_183 0 11 (dk_at dksX17_carries_0 7 rfl rfl)
theorem dX17_carries_10 : decode cX17_carries 10 = .ok (.goto 11, 3) := dk_167 0 11 (dk_at dksX17_carries_0 10 rfl rfl)
theorem dX17_carries_13 : decode cX17_carries 13 = .ok (.aload_n 0, 1) := dk_42 (dk_at dksX17_carries_0 13 rfl rfl)
theorem dX17_carries_14 : decode cX17_carries 14 = .ok (.iload_n 1, 1) := dk_27 (dk_at dksX17_carries_0 14 rfl rfl)
theorem dX17_carries_15 : decode cX17_carries 15 = .ok (.iconst 2, 1) := dk_5 (dk_at dksX17_carries_0 15 rfl rfl)
theorem dX17_carries_16 : decode cX17_carries 16 = .ok (.idiv, 1) := dk_108 (dk_at dksX17_carries_0 16 rfl rfl)
theorem dX17_carries_17 : decode cX17_carries 17 = .ok (.iconst 0, 1) := dk_3 (dk_at dksX17_carries_0 17 rfl rfl)
theorem dX17_carries_18 : decode cX17_carries 18 = .ok (.invokespecial 11, 3) := dk_183 0 11 (dk_at dksX17_carries_0 18 rfl rfl)
theorem dX17_carries_21 : decode cX17_carries 21 = .ok (.ireturn, 1) := dk_172 (dk_at dksX17_carries_0 21 rfl rfl)
abbrev cX17_worm : ByteArray := prog_7_method_3_code
def yX17_worm : MethodName := ⟨RX17, "worm", "()I"⟩
def dkwX17_worm_0 : List UInt8 := [42, 183, 0, 7, 4, 100, 172]
abbrev dktX17_worm_0 : List UInt8 := dkwX17_worm_0 ++ []
theorem dksX17_worm_0 : cX17_worm.data.toList.drop 0 = dktX17_worm_0 := by decide +kernel
theorem dX17_worm_0 : decode cX17_worm 0 = .ok (.aload_n 0, 1) := dk_42 (dk_at dksX17_worm_0 0 rfl rfl)
theorem dX17_worm_1 : decode cX17_worm 1 = .ok (.invokespecial 7, 3) := dk_183 0 7 (dk_at dksX17_worm_0 1 rfl rfl)
theorem dX17_worm_4 : decode cX17_worm 4 = .ok (.iconst 1, 1) := dk_4 (dk_at dksX17_worm_0 4 rfl rfl)
theorem dX17_worm_5 : decode cX17_worm 5 = .ok (.isub, 1) := dk_100 (dk_at dksX17_worm_0 5 rfl rfl)
theorem dX17_worm_6 : decode cX17_worm 6 = .ok (.ireturn, 1) := dk_172 (dk_at dksX17_worm_0 6 rfl rfl)
abbrev cX17_init : ByteArray := prog_7_method_1_code
def yX17_init : MethodName := ⟨RX17, "<init>", "(IIII)V"⟩
def dkwX17_init_0 : List UInt8 := [42, 27, 28, 29, 21, 4, 183, 0, 1, 177]
abbrev dktX17_init_0 : List UInt8 := dkwX17_init_0 ++ []
theorem dksX17_init_0 : cX17_init.data.toList.drop 0 = dktX17_init_0 := by decide +kernel
theorem dX17_init_0 : decode cX17_init 0 = .ok (.aload_n 0, 1) := dk_42 (dk_at dksX17_init_0 0 rfl rfl)
theorem dX17_init_1 : decode cX17_init 1 = .ok (.iload_n 1, 1) := dk_27 (dk_at dksX17_init_0 1 rfl rfl)
theorem dX17_init_2 : decode cX17_init 2 = .ok (.iload_n 2, 1) := dk_28 (dk_at dksX17_init_0 2 rfl rfl)
theorem dX17_init_3 : decode cX17_init 3 = .ok (.iload_n 3, 1) := dk_29 (dk_at dksX17_init_0 3 rfl rfl)
theorem dX17_init_4 : decode cX17_init 4 = .ok (.iload 4, 2) := dk_21 4 (dk_at dksX17_init_0 4 rfl rfl)
theorem dX17_init_6 : decode cX17_init 6 = .ok (.invokespecial 1, 3) := dk_183 0 1 (dk_at dksX17_init_0 6 rfl rfl)
theorem dX17_init_9 : decode cX17_init 9 = .ok (.return_, 1) := dk_177 (dk_at dksX17_init_0 9 rfl rfl)
theorem q145 : (Jvm.Cond.initialized "TableTower$Folding") ∈ lw_all := lw_g (lw_at lw_m1 39 rfl) rfl
theorem q623 : (Jvm.Cond.selects "TableTower$Folding" ({ cls := "java/lang/Object", name := "getClass", desc := "()Ljava/lang/Class;" } : Jvm.MethodName) ({ cls := "java/lang/Object", name := "getClass", desc := "()Ljava/lang/Class;" } : Jvm.MethodName)) ∈ lw_all := lw_g (lw_at lw_m3 37 rfl) rfl
theorem q836 : (Jvm.Cond.instanceMethod ({ cls := "TableTower$Folding", name := "kind", desc := "()I" } : Jvm.MethodName)) ∈ lw_all := lw_g (lw_at lw_m4 10 rfl) rfl
theorem q837 : (Jvm.Cond.code ({ cls := "TableTower$Folding", name := "kind", desc := "()I" } : Jvm.MethodName) prog_7_method_2_code (1 : Nat) (Option.some Jvm.ClassFile.FieldType.int)) ∈ lw_all := lw_g (lw_at lw_m4 11 rfl) rfl
theorem q838 : (Jvm.Cond.selects "TableTower$Folding" ({ cls := "TableTower$Pine", name := "kind", desc := "()I" } : Jvm.MethodName) ({ cls := "TableTower$Folding", name := "kind", desc := "()I" } : Jvm.MethodName)) ∈ lw_all := lw_g (lw_at lw_m4 12 rfl) rfl
theorem q922 : (Jvm.Cond.selects "TableTower$Folding" ({ cls := "TableTower$Pine", name := "carriesBy", desc := "(IZ)I" } : Jvm.MethodName) ({ cls := "TableTower$Pine", name := "carriesBy", desc := "(IZ)I" } : Jvm.MethodName)) ∈ lw_all := lw_g (lw_at lw_m4 96 rfl) rfl
theorem q933 : (Jvm.Cond.instanceMethod ({ cls := "TableTower$Folding", name := "carries", desc := "(IZ)I" } : Jvm.MethodName)) ∈ lw_all := lw_g (lw_at lw_m4 107 rfl) rfl
theorem q934 : (Jvm.Cond.code ({ cls := "TableTower$Folding", name := "carries", desc := "(IZ)I" } : Jvm.MethodName) prog_7_method_4_code (3 : Nat) (Option.some Jvm.ClassFile.FieldType.int)) ∈ lw_all := lw_g (lw_at lw_m4 108 rfl) rfl
theorem q935 : (Jvm.Cond.methodLink "TableTower$Folding" (11 : Nat) ({ cls := "TableTower$Pine", name := "carries", desc := "(IZ)I" } : Jvm.MethodName)) ∈ lw_all := lw_g (lw_at lw_m4 109 rfl) rfl
theorem q936 : (Jvm.Cond.superclass "TableTower$Folding" "TableTower$Pine") ∈ lw_all := lw_g (lw_at lw_m4 110 rfl) rfl
theorem q938 : (Jvm.Cond.selects "TableTower$Folding" ({ cls := "TableTower$Pine", name := "carries", desc := "(IZ)I" } : Jvm.MethodName) ({ cls := "TableTower$Folding", name := "carries", desc := "(IZ)I" } : Jvm.MethodName)) ∈ lw_all := lw_g (lw_at lw_m4 112 rfl) rfl
theorem q945 : (Jvm.Cond.instanceMethod ({ cls := "TableTower$Folding", name := "worm", desc := "()I" } : Jvm.MethodName)) ∈ lw_all := lw_g (lw_at lw_m4 119 rfl) rfl
theorem q946 : (Jvm.Cond.code ({ cls := "TableTower$Folding", name := "worm", desc := "()I" } : Jvm.MethodName) prog_7_method_3_code (1 : Nat) (Option.some Jvm.ClassFile.FieldType.int)) ∈ lw_all := lw_g (lw_at lw_m4 120 rfl) rfl
theorem q947 : (Jvm.Cond.methodLink "TableTower$Folding" (7 : Nat) ({ cls := "TableTower$Pine", name := "worm", desc := "()I" } : Jvm.MethodName)) ∈ lw_all := lw_g (lw_at lw_m4 121 rfl) rfl
theorem q949 : (Jvm.Cond.selects "TableTower$Folding" ({ cls := "TableTower$Pine", name := "worm", desc := "()I" } : Jvm.MethodName) ({ cls := "TableTower$Folding", name := "worm", desc := "()I" } : Jvm.MethodName)) ∈ lw_all := lw_g (lw_at lw_m4 123 rfl) rfl
theorem q971 : (Jvm.Cond.sameMethod "TableTower$Folding" "TableTower$Pine" "times" "()I") ∈ lw_all := lw_g (lw_at lw_m4 145 rfl) rfl
theorem q974 : (Jvm.Cond.selects "TableTower$Folding" ({ cls := "TableTower$Pine", name := "times", desc := "()I" } : Jvm.MethodName) ({ cls := "TableTower$Pine", name := "times", desc := "()I" } : Jvm.MethodName)) ∈ lw_all := lw_g (lw_at lw_m4 148 rfl) rfl
theorem q1473 : (Jvm.Cond.instantiable "TableTower$Folding" (4 : Nat)) ∈ lw_all := lw_g (lw_at lw_m6 167 rfl) rfl
theorem q1475 : (Jvm.Cond.instanceMethod ({ cls := "TableTower$Folding", name := "<init>", desc := "(IIII)V" } : Jvm.MethodName)) ∈ lw_all := lw_g (lw_at lw_m6 169 rfl) rfl
theorem q1476 : (Jvm.Cond.code ({ cls := "TableTower$Folding", name := "<init>", desc := "(IIII)V" } : Jvm.MethodName) prog_7_method_1_code (5 : Nat) (Option.none : Option Jvm.ClassFile.FieldType)) ∈ lw_all := lw_g (lw_at lw_m6 170 rfl) rfl
theorem q1477 : (Jvm.Cond.methodLink "TableTower$Folding" (1 : Nat) ({ cls := "TableTower$Pine", name := "<init>", desc := "(IIII)V" } : Jvm.MethodName)) ∈ lw_all := lw_g (lw_at lw_m6 171 rfl) rfl
theorem q1478 : (Jvm.Cond.laysFinal "TableTower$Folding" "TableTower$Pine" "weight" "I") ∈ lw_all := lw_g (lw_at lw_m6 172 rfl) rfl
theorem q1479 : (Jvm.Cond.laysFinal "TableTower$Folding" "TableTower$Pine" "bears" "I") ∈ lw_all := lw_g (lw_at lw_m6 173 rfl) rfl
theorem q1480 : (Jvm.Cond.laysFinal "TableTower$Folding" "TableTower$Pine" "lean" "I") ∈ lw_all := lw_g (lw_at lw_m6 174 rfl) rfl
theorem q1481 : (Jvm.Cond.laysFinal "TableTower$Folding" "TableTower$Pine" "hunger" "I") ∈ lw_all := lw_g (lw_at lw_m6 175 rfl) rfl
theorem q1538 : (Jvm.Cond.selects "TableTower$Folding" ({ cls := "TableTower$Pine", name := "bearing", desc := "(I)I" } : Jvm.MethodName) ({ cls := "TableTower$Pine", name := "bearing", desc := "(I)I" } : Jvm.MethodName)) ∈ lw_all := lw_g (lw_at lw_m6 232 rfl) rfl
theorem q2384 : (Jvm.Cond.sameMethod "TableTower$Folding" "TableTower$Folding" "kind" "()I") ∈ lw_all := lw_g (lw_at lw_m10 118 rfl) rfl
theorem q2385 : (Jvm.Cond.sameMethod "TableTower$Folding" "TableTower$Folding" "carries" "(IZ)I") ∈ lw_all := lw_g (lw_at lw_m10 119 rfl) rfl
theorem q2390 : (Jvm.Cond.castable "TableTower$Folding" "TableTower$Pine") ∈ lw_tbl := lw_at lw_m10 124 rfl
theorem q2412 : (Jvm.Cond.castable "TableTower$Folding" "java/lang/Object") ∈ lw_tbl := lw_at lw_m10 146 rfl
theorem in_X17 : ∀ w ∈ wsX170, w ∈ lw_all := lw_in wsX170 [1478, 1479, 1480, 1481] (by decide +kernel) (by decide +kernel)
/-! TableTower$Castor -/
set_option maxRecDepth 100000
def RX18 : String := "TableTower$Castor"
def TX18 : u_T := fun k => match k with
  | 0 => ("TableTower$Pine", "weight", "I", true)
  | 1 => ("TableTower$Pine", "bears", "I", true)
  | 2 => ("TableTower$Pine", "lean", "I", true)
  | _ => ("TableTower$Pine", "hunger", "I", true)
def tyX18 : Nat → FieldType := fun k => match k with
  | 0 => .int
  | 1 => .int
  | 2 => .int
  | _ => .int
abbrev wsX180 : List Cond := u_ws RX18 TX18 4
theorem nmX18 : ∀ a, a < 4 → ∀ b, b < 4 → a ≠ b → (TX18 a).2.1 ≠ (TX18 b).2.1 := by decide +kernel
theorem tyX18_ok : ∀ k, k < 4 → parseFieldDescriptor (TX18 k).2.2.1 = some (tyX18 k) := by decide +kernel
abbrev cX18_kind : ByteArray := prog_4_method_2_code
def yX18_kind : MethodName := ⟨RX18, "kind", "()I"⟩
def dkwX18_kind_0 : List UInt8 := [42, 183, 0, 7, 4, 96, 172]
abbrev dktX18_kind_0 : List UInt8 := dkwX18_kind_0 ++ []
theorem dksX18_kind_0 : cX18_kind.data.toList.drop 0 = dktX18_kind_0 := by decide +kernel
theorem dX18_kind_0 : decode cX18_kind 0 = .ok (.aload_n 0, 1) := dk_42 (dk_at dksX18_kind_0 0 rfl rfl)
theorem dX18_kind_1 : decode cX18_kind 1 = .ok (.invokespecial 7, 3) := dk_183 0 7 (dk_at dksX18_kind_0 1 rfl rfl)
theorem dX18_kind_4 : decode cX18_kind 4 = .ok (.iconst 1, 1) := dk_4 (dk_at dksX18_kind_0 4 rfl rfl)
theorem dX18_kind_5 : decode cX18_kind 5 = .ok (.iadd, 1) := dk_96 (dk_at dksX18_kind_0 5 rfl rfl)
theorem dX18_kind_6 : decode cX18_kind 6 = .ok (.ireturn, 1) := dk_172 (dk_at dksX18_kind_0 6 rfl rfl)
abbrev cX18_carries : ByteArray := prog_4_method_3_code
def yX18_carries : MethodName := ⟨RX18, "carries", "(IZ)I"⟩
def dkwX18_carries_0 : List UInt8 := [42, 27, 4, 183, 0, 11, 172]
abbrev dktX18_carries_0 : List UInt8 := dkwX18_carries_0 ++ []
theorem dksX18_carries_0 : cX18_carries.data.toList.drop 0 = dktX18_carries_0 := by decide +kernel
theorem dX18_carries_0 : decode cX18_carries 0 = .ok (.aload_n 0, 1) := dk_42 (dk_at dksX18_carries_0 0 rfl rfl)
theorem dX18_carries_1 : decode cX18_carries 1 = .ok (.iload_n 1, 1) := dk_27 (dk_at dksX18_carries_0 1 rfl rfl)
theorem dX18_carries_2 : decode cX18_carries 2 = .ok (.iconst 1, 1) := dk_4 (dk_at dksX18_carries_0 2 rfl rfl)
theorem dX18_carries_3 : decode cX18_carries 3 = .ok (.invokespecial 11, 3) := dk_183 0 11 (dk_at dksX18_carries_0 3 rfl rfl)
theorem dX18_carries_6 : decode cX18_carries 6 = .ok (.ireturn, 1) := dk_172 (dk_at dksX18_carries_0 6 rfl rfl)
abbrev cX18_times : ByteArray := prog_4_method_4_code
def yX18_times : MethodName := ⟨RX18, "times", "()I"⟩
def dkwX18_times_0 : List UInt8 := [5, 42, 183, 0, 15, 104, 172]
abbrev dktX18_times_0 : List UInt8 := dkwX18_times_0 ++ []
theorem dksX18_times_0 : cX18_times.data.toList.drop 0 = dktX18_times_0 := by decide +kernel
theorem dX18_times_0 : decode cX18_times 0 = .ok (.iconst 2, 1) := dk_5 (dk_at dksX18_times_0 0 rfl rfl)
theorem dX18_times_1 : decode cX18_times 1 = .ok (.aload_n 0, 1) := dk_42 (dk_at dksX18_times_0 1 rfl rfl)
theorem dX18_times_2 : decode cX18_times 2 = .ok (.invokespecial 15, 3) := dk_183 0 15 (dk_at dksX18_times_0 2 rfl rfl)
theorem dX18_times_5 : decode cX18_times 5 = .ok (.imul, 1) := dk_104 (dk_at dksX18_times_0 5 rfl rfl)
theorem dX18_times_6 : decode cX18_times 6 = .ok (.ireturn, 1) := dk_172 (dk_at dksX18_times_0 6 rfl rfl)
abbrev cX18_init : ByteArray := prog_4_method_1_code
def yX18_init : MethodName := ⟨RX18, "<init>", "(IIII)V"⟩
def dkwX18_init_0 : List UInt8 := [42, 27, 28, 29, 21, 4, 183, 0, 1, 177]
abbrev dktX18_init_0 : List UInt8 := dkwX18_init_0 ++ []
theorem dksX18_init_0 : cX18_init.data.toList.drop 0 = dktX18_init_0 := by decide +kernel
theorem dX18_init_0 : decode cX18_init 0 = .ok (.aload_n 0, 1) := dk_42 (dk_at dksX18_init_0 0 rfl rfl)
theorem dX18_init_1 : decode cX18_init 1 = .ok (.iload_n 1, 1) := dk_27 (dk_at dksX18_init_0 1 rfl rfl)
theorem dX18_init_2 : decode cX18_init 2 = .ok (.iload_n 2, 1) := dk_28 (dk_at dksX18_init_0 2 rfl rfl)
theorem dX18_init_3 : decode cX18_init 3 = .ok (.iload_n 3, 1) := dk_29 (dk_at dksX18_init_0 3 rfl rfl)
theorem dX18_init_4 : decode cX18_init 4 = .ok (.iload 4, 2) := dk_21 4 (dk_at dksX18_init_0 4 rfl rfl)
theorem dX18_init_6 : decode cX18_init 6 = .ok (.invokespecial 1, 3) := dk_183 0 1 (dk_at dksX18_init_0 6 rfl rfl)
theorem dX18_init_9 : decode cX18_init 9 = .ok (.return_, 1) := dk_177 (dk_at dksX18_init_0 9 rfl rfl)
theorem q146 : (Jvm.Cond.initialized "TableTower$Castor") ∈ lw_all := lw_g (lw_at lw_m1 40 rfl) rfl
theorem q621 : (Jvm.Cond.selects "TableTower$Castor" ({ cls := "java/lang/Object", name := "getClass", desc := "()Ljava/lang/Class;" } : Jvm.MethodName) ({ cls := "java/lang/Object", name := "getClass", desc := "()Ljava/lang/Class;" } : Jvm.MethodName)) ∈ lw_all := lw_g (lw_at lw_m3 35 rfl) rfl
theorem q831 : (Jvm.Cond.selects "TableTower$Castor" ({ cls := "TableTower$Pine", name := "kind", desc := "()I" } : Jvm.MethodName) ({ cls := "TableTower$Castor", name := "kind", desc := "()I" } : Jvm.MethodName)) ∈ lw_all := lw_g (lw_at lw_m4 5 rfl) rfl
theorem q832 : (Jvm.Cond.instanceMethod ({ cls := "TableTower$Castor", name := "kind", desc := "()I" } : Jvm.MethodName)) ∈ lw_all := lw_g (lw_at lw_m4 6 rfl) rfl
theorem q833 : (Jvm.Cond.code ({ cls := "TableTower$Castor", name := "kind", desc := "()I" } : Jvm.MethodName) prog_4_method_2_code (1 : Nat) (Option.some Jvm.ClassFile.FieldType.int)) ∈ lw_all := lw_g (lw_at lw_m4 7 rfl) rfl
theorem q834 : (Jvm.Cond.methodLink "TableTower$Castor" (7 : Nat) ({ cls := "TableTower$Folding", name := "kind", desc := "()I" } : Jvm.MethodName)) ∈ lw_all := lw_g (lw_at lw_m4 8 rfl) rfl
theorem q835 : (Jvm.Cond.superclass "TableTower$Castor" "TableTower$Folding") ∈ lw_all := lw_g (lw_at lw_m4 9 rfl) rfl
theorem q921 : (Jvm.Cond.selects "TableTower$Castor" ({ cls := "TableTower$Pine", name := "carriesBy", desc := "(IZ)I" } : Jvm.MethodName) ({ cls := "TableTower$Pine", name := "carriesBy", desc := "(IZ)I" } : Jvm.MethodName)) ∈ lw_all := lw_g (lw_at lw_m4 95 rfl) rfl
theorem q929 : (Jvm.Cond.selects "TableTower$Castor" ({ cls := "TableTower$Pine", name := "carries", desc := "(IZ)I" } : Jvm.MethodName) ({ cls := "TableTower$Castor", name := "carries", desc := "(IZ)I" } : Jvm.MethodName)) ∈ lw_all := lw_g (lw_at lw_m4 103 rfl) rfl
theorem q930 : (Jvm.Cond.instanceMethod ({ cls := "TableTower$Castor", name := "carries", desc := "(IZ)I" } : Jvm.MethodName)) ∈ lw_all := lw_g (lw_at lw_m4 104 rfl) rfl
theorem q931 : (Jvm.Cond.code ({ cls := "TableTower$Castor", name := "carries", desc := "(IZ)I" } : Jvm.MethodName) prog_4_method_3_code (3 : Nat) (Option.some Jvm.ClassFile.FieldType.int)) ∈ lw_all := lw_g (lw_at lw_m4 105 rfl) rfl
theorem q932 : (Jvm.Cond.methodLink "TableTower$Castor" (11 : Nat) ({ cls := "TableTower$Folding", name := "carries", desc := "(IZ)I" } : Jvm.MethodName)) ∈ lw_all := lw_g (lw_at lw_m4 106 rfl) rfl
theorem q944 : (Jvm.Cond.selects "TableTower$Castor" ({ cls := "TableTower$Pine", name := "worm", desc := "()I" } : Jvm.MethodName) ({ cls := "TableTower$Folding", name := "worm", desc := "()I" } : Jvm.MethodName)) ∈ lw_all := lw_g (lw_at lw_m4 118 rfl) rfl
theorem q967 : (Jvm.Cond.selects "TableTower$Castor" ({ cls := "TableTower$Pine", name := "times", desc := "()I" } : Jvm.MethodName) ({ cls := "TableTower$Castor", name := "times", desc := "()I" } : Jvm.MethodName)) ∈ lw_all := lw_g (lw_at lw_m4 141 rfl) rfl
theorem q968 : (Jvm.Cond.instanceMethod ({ cls := "TableTower$Castor", name := "times", desc := "()I" } : Jvm.MethodName)) ∈ lw_all := lw_g (lw_at lw_m4 142 rfl) rfl
theorem q969 : (Jvm.Cond.code ({ cls := "TableTower$Castor", name := "times", desc := "()I" } : Jvm.MethodName) prog_4_method_4_code (1 : Nat) (Option.some Jvm.ClassFile.FieldType.int)) ∈ lw_all := lw_g (lw_at lw_m4 143 rfl) rfl
theorem q970 : (Jvm.Cond.methodLink "TableTower$Castor" (15 : Nat) ({ cls := "TableTower$Folding", name := "times", desc := "()I" } : Jvm.MethodName)) ∈ lw_all := lw_g (lw_at lw_m4 144 rfl) rfl
theorem q1483 : (Jvm.Cond.instantiable "TableTower$Castor" (4 : Nat)) ∈ lw_all := lw_g (lw_at lw_m6 177 rfl) rfl
theorem q1485 : (Jvm.Cond.instanceMethod ({ cls := "TableTower$Castor", name := "<init>", desc := "(IIII)V" } : Jvm.MethodName)) ∈ lw_all := lw_g (lw_at lw_m6 179 rfl) rfl
theorem q1486 : (Jvm.Cond.code ({ cls := "TableTower$Castor", name := "<init>", desc := "(IIII)V" } : Jvm.MethodName) prog_4_method_1_code (5 : Nat) (Option.none : Option Jvm.ClassFile.FieldType)) ∈ lw_all := lw_g (lw_at lw_m6 180 rfl) rfl
theorem q1487 : (Jvm.Cond.methodLink "TableTower$Castor" (1 : Nat) ({ cls := "TableTower$Folding", name := "<init>", desc := "(IIII)V" } : Jvm.MethodName)) ∈ lw_all := lw_g (lw_at lw_m6 181 rfl) rfl
theorem q1488 : (Jvm.Cond.laysFinal "TableTower$Castor" "TableTower$Pine" "weight" "I") ∈ lw_all := lw_g (lw_at lw_m6 182 rfl) rfl
theorem q1489 : (Jvm.Cond.laysFinal "TableTower$Castor" "TableTower$Pine" "bears" "I") ∈ lw_all := lw_g (lw_at lw_m6 183 rfl) rfl
theorem q1490 : (Jvm.Cond.laysFinal "TableTower$Castor" "TableTower$Pine" "lean" "I") ∈ lw_all := lw_g (lw_at lw_m6 184 rfl) rfl
theorem q1491 : (Jvm.Cond.laysFinal "TableTower$Castor" "TableTower$Pine" "hunger" "I") ∈ lw_all := lw_g (lw_at lw_m6 185 rfl) rfl
theorem q1537 : (Jvm.Cond.selects "TableTower$Castor" ({ cls := "TableTower$Pine", name := "bearing", desc := "(I)I" } : Jvm.MethodName) ({ cls := "TableTower$Pine", name := "bearing", desc := "(I)I" } : Jvm.MethodName)) ∈ lw_all := lw_g (lw_at lw_m6 231 rfl) rfl
theorem q2389 : (Jvm.Cond.castable "TableTower$Castor" "TableTower$Pine") ∈ lw_tbl := lw_at lw_m10 123 rfl
theorem q2413 : (Jvm.Cond.castable "TableTower$Castor" "java/lang/Object") ∈ lw_tbl := lw_at lw_m10 147 rfl
theorem in_X18 : ∀ w ∈ wsX180, w ∈ lw_all := lw_in wsX180 [1488, 1489, 1490, 1491] (by decide +kernel) (by decide +kernel)
/-! TableTower$Town -/
set_option maxRecDepth 100000
def RX2 : String := "TableTower$Town"
def TX2 : u_T := fun k => match k with
  | 0 => ("TableTower$Town", "limit", "I", false)
  | 1 => ("TableTower$Town", "food", "I", false)
  | 2 => ("TableTower$Town", "tables", "Ljava/util/ArrayList;", true)
  | 3 => ("TableTower$Town", "takes", "LTableTower$Expr;", false)
  | _ => ("TableTower$Town", "view", "LTableTower$View;", true)
def tyX2 : Nat → FieldType := fun k => match k with
  | 0 => .int
  | 1 => .int
  | 2 => .object "java/util/ArrayList"
  | 3 => .object "TableTower$Expr"
  | _ => .object "TableTower$View"
abbrev wsX20 : List Cond := u_ws RX2 TX2 5
theorem nmX2 : ∀ a, a < 5 → ∀ b, b < 5 → a ≠ b → (TX2 a).2.1 ≠ (TX2 b).2.1 := by decide +kernel
theorem tyX2_ok : ∀ k, k < 5 → parseFieldDescriptor (TX2 k).2.2.1 = some (tyX2 k) := by decide +kernel
abbrev cX2_init : ByteArray := prog_16_method_1_code
def yX2_init : MethodName := ⟨RX2, "<init>", "()V"⟩
def dkwX2_init_1 : List UInt8 := [183, 0, 18, 181, 0, 21, 42, 187, 0, 25, 89, 183, 0, 27, 181, 0, 28, 177]
abbrev dktX2_init_1 : List UInt8 := dkwX2_init_1 ++ []
def dkwX2_init_0 : List UInt8 := [42, 183, 0, 1, 42, 16, 9, 181, 0, 7, 42, 16, 100, 181, 0, 13, 42, 187, 0, 16, 89, 4]
abbrev dktX2_init_0 : List UInt8 := dkwX2_init_0 ++ dktX2_init_1
theorem dksX2_init_0 : cX2_init.data.toList.drop 0 = dktX2_init_0 := by decide +kernel
theorem dksX2_init_1 : cX2_init.data.toList.drop 22 = dktX2_init_1 := dk_seg dksX2_init_0 22 rfl rfl
theorem dX2_init_0 : decode cX2_init 0 = .ok (.aload_n 0, 1) := dk_42 (dk_at dksX2_init_0 0 rfl rfl)
theorem dX2_init_1 : decode cX2_init 1 = .ok (.invokespecial 1, 3) := dk_183 0 1 (dk_at dksX2_init_0 1 rfl rfl)
theorem dX2_init_4 : decode cX2_init 4 = .ok (.aload_n 0, 1) := dk_42 (dk_at dksX2_init_0 4 rfl rfl)
theorem dX2_init_5 : decode cX2_init 5 = .ok (.bipush 9, 2) := dk_16 9 (dk_at dksX2_init_0 5 rfl rfl)
theorem dX2_init_7 : decode cX2_init 7 = .ok (.putfield 7, 3) := dk_181 0 7 (dk_at dksX2_init_0 7 rfl rfl)
theorem dX2_init_10 : decode cX2_init 10 = .ok (.aload_n 0, 1) := dk_42 (dk_at dksX2_init_0 10 rfl rfl)
theorem dX2_init_11 : decode cX2_init 11 = .ok (.bipush 100, 2) := dk_16 100 (dk_at dksX2_init_0 11 rfl rfl)
theorem dX2_init_13 : decode cX2_init 13 = .ok (.putfield 13, 3) := dk_181 0 13 (dk_at dksX2_init_0 13 rfl rfl)
theorem dX2_init_16 : decode cX2_init 16 = .ok (.aload_n 0, 1) := dk_42 (dk_at dksX2_init_0 16 rfl rfl)
theorem dX2_init_17 : decode cX2_init 17 = .ok (.new 16, 3) := dk_187 0 16 (dk_at dksX2_init_0 17 rfl rfl)
theorem dX2_init_20 : decode cX2_init 20 = .ok (.dup, 1) := dk_89 (dk_at dksX2_init_0 20 rfl rfl)
theorem dX2_init_21 : decode cX2_init 21 = .ok (.iconst 1, 1) := dk_4 (dk_at dksX2_init_0 21 rfl rfl)
theorem dX2_init_22 : decode cX2_init 22 = .ok (.invokespecial 18, 3) := dk_183 0 18 (dk_at dksX2_init_1 0 rfl rfl)
theorem dX2_init_25 : decode cX2_init 25 = .ok (.putfield 21, 3) := dk_181 0 21 (dk_at dksX2_init_1 3 rfl rfl)
theorem dX2_init_28 : decode cX2_init 28 = .ok (.aload_n 0, 1) := dk_42 (dk_at dksX2_init_1 6 rfl rfl)
theorem dX2_init_29 : decode cX2_init 29 = .ok (.new 25, 3) := dk_187 0 25 (dk_at dksX2_init_1 7 rfl rfl)
theorem dX2_init_32 : decode cX2_init 32 = .ok (.dup, 1) := dk_89 (dk_at dksX2_init_1 10 rfl rfl)
theorem dX2_init_33 : decode cX2_init 33 = .ok (.invokespecial 27, 3) := dk_183 0 27 (dk_at dksX2_init_1 11 rfl rfl)
theorem dX2_init_36 : decode cX2_init 36 = .ok (.putfield 28, 3) := dk_181 0 28 (dk_at dksX2_init_1 14 rfl rfl)
theorem dX2_init_39 : decode cX2_init 39 = .ok (.return_, 1) := dk_177 (dk_at dksX2_init_1 17 rfl rfl)
abbrev cX2_takes : ByteArray := prog_16_method_2_code
def yX2_takes : MethodName := ⟨RX2, "takes", "(IIII)I"⟩
def dkwX2_takes_5 : List UInt8 := [42, 180, 0, 28, 182, 0, 83, 184, 0, 45, 184, 0, 89, 172]
abbrev dktX2_takes_5 : List UInt8 := dkwX2_takes_5 ++ []
def dkwX2_takes_4 : List UInt8 := [182, 0, 57, 42, 180, 0, 28, 178, 0, 77, 25, 5, 180, 0, 80, 182, 0, 57, 3, 29, 42, 180, 0, 38]
abbrev dktX2_takes_4 : List UInt8 := dkwX2_takes_4 ++ dktX2_takes_5
def dkwX2_takes_3 : List UInt8 := [180, 0, 28, 178, 0, 67, 25, 5, 182, 0, 70, 182, 0, 57, 42, 180, 0, 28, 178, 0, 74, 21, 4]
abbrev dktX2_takes_3 : List UInt8 := dkwX2_takes_3 ++ dktX2_takes_4
def dkwX2_takes_2 : List UInt8 := [178, 0, 61, 25, 5, 180, 0, 42, 182, 0, 57, 42, 180, 0, 28, 178, 0, 64, 29, 182, 0, 57, 42]
abbrev dktX2_takes_2 : List UInt8 := dkwX2_takes_2 ++ dktX2_takes_3
def dkwX2_takes_1 : List UInt8 := [180, 0, 42, 29, 184, 0, 45, 172, 42, 180, 0, 28, 178, 0, 51, 28, 182, 0, 57, 42, 180, 0, 28]
abbrev dktX2_takes_1 : List UInt8 := dkwX2_takes_1 ++ dktX2_takes_2
def dkwX2_takes_0 : List UInt8 := [42, 180, 0, 21, 27, 182, 0, 32, 192, 0, 36, 58, 5, 42, 180, 0, 38, 199, 0, 13, 25, 5]
abbrev dktX2_takes_0 : List UInt8 := dkwX2_takes_0 ++ dktX2_takes_1
theorem dksX2_takes_0 : cX2_takes.data.toList.drop 0 = dktX2_takes_0 := by decide +kernel
theorem dksX2_takes_1 : cX2_takes.data.toList.drop 22 = dktX2_takes_1 := dk_seg dksX2_takes_0 22 rfl rfl
theorem dksX2_takes_2 : cX2_takes.data.toList.drop 45 = dktX2_takes_2 := dk_seg dksX2_takes_1 23 rfl rfl
theorem dksX2_takes_3 : cX2_takes.data.toList.drop 68 = dktX2_takes_3 := dk_seg dksX2_takes_2 23 rfl rfl
theorem dksX2_takes_4 : cX2_takes.data.toList.drop 91 = dktX2_takes_4 := dk_seg dksX2_takes_3 23 rfl rfl
theorem dksX2_takes_5 : cX2_takes.data.toList.drop 115 = dktX2_takes_5 := dk_seg dksX2_takes_4 24 rfl rfl
theorem dX2_takes_0 : decode cX2_takes 0 = .ok (.aload_n 0, 1) := dk_42 (dk_at dksX2_takes_0 0 rfl rfl)
theorem dX2_takes_1 : decode cX2_takes 1 = .ok (.getfield 21, 3) := dk_180 0 21 (dk_at dksX2_takes_0 1 rfl rfl)
theorem dX2_takes_4 : decode cX2_takes 4 = .ok (.iload_n 1, 1) := dk_27 (dk_at dksX2_takes_0 4 rfl rfl)
theorem dX2_takes_5 : decode cX2_takes 5 = .ok (.invokevirtual 32, 3) := dk_182 0 32 (dk_at dksX2_takes_0 5 rfl rfl)
theorem dX2_takes_8 : decode cX2_takes 8 = .ok (.checkcast 36, 3) := dk_192 0 36 (dk_at dksX2_takes_0 8 rfl rfl)
theorem dX2_takes_11 : decode cX2_takes 11 = .ok (.astore 5, 2) := dk_58 5 (dk_at dksX2_takes_0 11 rfl rfl)
theorem dX2_takes_13 : decode cX2_takes 13 = .ok (.aload_n 0, 1) := dk_42 (dk_at dksX2_takes_0 13 rfl rfl)
theorem dX2_takes_14 : decode cX2_takes 14 = .ok (.getfield 38, 3) := dk_180 0 38 (dk_at dksX2_takes_0 14 rfl rfl)
theorem dX2_takes_17 : decode cX2_takes 17 = .ok (.ifnonnull 13, 3) := dk_199 0 13 (dk_at dksX2_takes_0 17 rfl rfl)
theorem dX2_takes_20 : decode cX2_takes 20 = .ok (.aload 5, 2) := dk_25 5 (dk_at dksX2_takes_0 20 rfl rfl)
theorem dX2_takes_22 : decode cX2_takes 22 = .ok (.getfield 42, 3) := dk_180 0 42 (dk_at dksX2_takes_1 0 rfl rfl)
theorem dX2_takes_25 : decode cX2_takes 25 = .ok (.iload_n 3, 1) := dk_29 (dk_at dksX2_takes_1 3 rfl rfl)
theorem dX2_takes_26 : decode cX2_takes 26 = .ok (.invokestatic 45, 3) := dk_184 0 45 (dk_at dksX2_takes_1 4 rfl rfl)
theorem dX2_takes_29 : decode cX2_takes 29 = .ok (.ireturn, 1) := dk_172 (dk_at dksX2_takes_1 7 rfl rfl)
theorem dX2_takes_30 : decode cX2_takes 30 = .ok (.aload_n 0, 1) := dk_42 (dk_at dksX2_takes_1 8 rfl rfl)
theorem dX2_takes_31 : decode cX2_takes 31 = .ok (.getfield 28, 3) := dk_180 0 28 (dk_at dksX2_takes_1 9 rfl rfl)
theorem dX2_takes_34 : decode cX2_takes 34 = .ok (.getstatic 51, 3) := dk_178 0 51 (dk_at dksX2_takes_1 12 rfl rfl)
theorem dX2_takes_37 : decode cX2_takes 37 = .ok (.iload_n 2, 1) := dk_28 (dk_at dksX2_takes_1 15 rfl rfl)
theorem dX2_takes_38 : decode cX2_takes 38 = .ok (.invokevirtual 57, 3) := dk_182 0 57 (dk_at dksX2_takes_1 16 rfl rfl)
theorem dX2_takes_41 : decode cX2_takes 41 = .ok (.aload_n 0, 1) := dk_42 (dk_at dksX2_takes_1 19 rfl rfl)
theorem dX2_takes_42 : decode cX2_takes 42 = .ok (.getfield 28, 3) := dk_180 0 28 (dk_at dksX2_takes_1 20 rfl rfl)
theorem dX2_takes_45 : decode cX2_takes 45 = .ok (.getstatic 61, 3) := dk_178 0 61 (dk_at dksX2_takes_2 0 rfl rfl)
theorem dX2_takes_48 : decode cX2_takes 48 = .ok (.aload 5, 2) := dk_25 5 (dk_at dksX2_takes_2 3 rfl rfl)
theorem dX2_takes_50 : decode cX2_takes 50 = .ok (.getfield 42, 3) := dk_180 0 42 (dk_at dksX2_takes_2 5 rfl rfl)
theorem dX2_takes_53 : decode cX2_takes 53 = .ok (.invokevirtual 57, 3) := dk_182 0 57 (dk_at dksX2_takes_2 8 rfl rfl)
theorem dX2_takes_56 : decode cX2_takes 56 = .ok (.aload_n 0, 1) := dk_42 (dk_at dksX2_takes_2 11 rfl rfl)
theorem dX2_takes_57 : decode cX2_takes 57 = .ok (.getfield 28, 3) := dk_180 0 28 (dk_at dksX2_takes_2 12 rfl rfl)
theorem dX2_takes_60 : decode cX2_takes 60 = .ok (.getstatic 64, 3) := dk_178 0 64 (dk_at dksX2_takes_2 15 rfl rfl)
theorem dX2_takes_63 : decode cX2_takes 63 = .ok (.iload_n 3, 1) := dk_29 (dk_at dksX2_takes_2 18 rfl rfl)
theorem dX2_takes_64 : decode cX2_takes 64 = .ok (.invokevirtual 57, 3) := dk_182 0 57 (dk_at dksX2_takes_2 19 rfl rfl)
theorem dX2_takes_67 : decode cX2_takes 67 = .ok (.aload_n 0, 1) := dk_42 (dk_at dksX2_takes_2 22 rfl rfl)
theorem dX2_takes_68 : decode cX2_takes 68 = .ok (.getfield 28, 3) := dk_180 0 28 (dk_at dksX2_takes_3 0 rfl rfl)
theorem dX2_takes_71 : decode cX2_takes 71 = .ok (.getstatic 67, 3) := dk_178 0 67 (dk_at dksX2_takes_3 3 rfl rfl)
theorem dX2_takes_74 : decode cX2_takes 74 = .ok (.aload 5, 2) := dk_25 5 (dk_at dksX2_takes_3 6 rfl rfl)
theorem dX2_takes_76 : decode cX2_takes 76 = .ok (.invokevirtual 70, 3) := dk_182 0 70 (dk_at dksX2_takes_3 8 rfl rfl)
theorem dX2_takes_79 : decode cX2_takes 79 = .ok (.invokevirtual 57, 3) := dk_182 0 57 (dk_at dksX2_takes_3 11 rfl rfl)
theorem dX2_takes_82 : decode cX2_takes 82 = .ok (.aload_n 0, 1) := dk_42 (dk_at dksX2_takes_3 14 rfl rfl)
theorem dX2_takes_83 : decode cX2_takes 83 = .ok (.getfield 28, 3) := dk_180 0 28 (dk_at dksX2_takes_3 15 rfl rfl)
theorem dX2_takes_86 : decode cX2_takes 86 = .ok (.getstatic 74, 3) := dk_178 0 74 (dk_at dksX2_takes_3 18 rfl rfl)
theorem dX2_takes_89 : decode cX2_takes 89 = .ok (.iload 4, 2) := dk_21 4 (dk_at dksX2_takes_3 21 rfl rfl)
theorem dX2_takes_91 : decode cX2_takes 91 = .ok (.invokevirtual 57, 3) := dk_182 0 57 (dk_at dksX2_takes_4 0 rfl rfl)
theorem dX2_takes_94 : decode cX2_takes 94 = .ok (.aload_n 0, 1) := dk_42 (dk_at dksX2_takes_4 3 rfl rfl)
theorem dX2_takes_95 : decode cX2_takes 95 = .ok (.getfield 28, 3) := dk_180 0 28 (dk_at dksX2_takes_4 4 rfl rfl)
theorem dX2_takes_98 : decode cX2_takes 98 = .ok (.getstatic 77, 3) := dk_178 0 77 (dk_at dksX2_takes_4 7 rfl rfl)
theorem dX2_takes_101 : decode cX2_takes 101 = .ok (.aload 5, 2) := dk_25 5 (dk_at dksX2_takes_4 10 rfl rfl)
theorem dX2_takes_103 : decode cX2_takes 103 = .ok (.getfield 80, 3) := dk_180 0 80 (dk_at dksX2_takes_4 12 rfl rfl)
theorem dX2_takes_106 : decode cX2_takes 106 = .ok (.invokevirtual 57, 3) := dk_182 0 57 (dk_at dksX2_takes_4 15 rfl rfl)
theorem dX2_takes_109 : decode cX2_takes 109 = .ok (.iconst 0, 1) := dk_3 (dk_at dksX2_takes_4 18 rfl rfl)
theorem dX2_takes_110 : decode cX2_takes 110 = .ok (.iload_n 3, 1) := dk_29 (dk_at dksX2_takes_4 19 rfl rfl)
theorem dX2_takes_111 : decode cX2_takes 111 = .ok (.aload_n 0, 1) := dk_42 (dk_at dksX2_takes_4 20 rfl rfl)
theorem dX2_takes_112 : decode cX2_takes 112 = .ok (.getfield 38, 3) := dk_180 0 38 (dk_at dksX2_takes_4 21 rfl rfl)
theorem dX2_takes_115 : decode cX2_takes 115 = .ok (.aload_n 0, 1) := dk_42 (dk_at dksX2_takes_5 0 rfl rfl)
theorem dX2_takes_116 : decode cX2_takes 116 = .ok (.getfield 28, 3) := dk_180 0 28 (dk_at dksX2_takes_5 1 rfl rfl)
theorem dX2_takes_119 : decode cX2_takes 119 = .ok (.invokevirtual 83, 3) := dk_182 0 83 (dk_at dksX2_takes_5 4 rfl rfl)
theorem dX2_takes_122 : decode cX2_takes 122 = .ok (.invokestatic 45, 3) := dk_184 0 45 (dk_at dksX2_takes_5 7 rfl rfl)
theorem dX2_takes_125 : decode cX2_takes 125 = .ok (.invokestatic 89, 3) := dk_184 0 89 (dk_at dksX2_takes_5 10 rfl rfl)
theorem dX2_takes_128 : decode cX2_takes 128 = .ok (.ireturn, 1) := dk_172 (dk_at dksX2_takes_5 13 rfl rfl)
theorem q108 : (Jvm.Cond.initialized "TableTower$Town") ∈ lw_all := lw_g (lw_at lw_m1 2 rfl) rfl
theorem q157 : (Jvm.Cond.instantiable "TableTower$Town" (5 : Nat)) ∈ lw_all := lw_g (lw_at lw_m1 51 rfl) rfl
theorem q159 : (Jvm.Cond.instanceMethod ({ cls := "TableTower$Town", name := "<init>", desc := "()V" } : Jvm.MethodName)) ∈ lw_all := lw_g (lw_at lw_m1 53 rfl) rfl
theorem q160 : (Jvm.Cond.code ({ cls := "TableTower$Town", name := "<init>", desc := "()V" } : Jvm.MethodName) prog_16_method_1_code (1 : Nat) (Option.none : Option Jvm.ClassFile.FieldType)) ∈ lw_all := lw_g (lw_at lw_m1 54 rfl) rfl
theorem q161 : (Jvm.Cond.methodLink "TableTower$Town" (1 : Nat) ({ cls := "java/lang/Object", name := "<init>", desc := "()V" } : Jvm.MethodName)) ∈ lw_all := lw_g (lw_at lw_m1 55 rfl) rfl
theorem q162 : (Jvm.Cond.classLink "TableTower$Town" (16 : Nat) "java/util/ArrayList") ∈ lw_all := lw_g (lw_at lw_m1 56 rfl) rfl
theorem q164 : (Jvm.Cond.methodLink "TableTower$Town" (18 : Nat) ({ cls := "java/util/ArrayList", name := "<init>", desc := "(I)V" } : Jvm.MethodName)) ∈ lw_all := lw_g (lw_at lw_m1 58 rfl) rfl
theorem q502 : (Jvm.Cond.classLink "TableTower$Town" (25 : Nat) "TableTower$View") ∈ lw_all := lw_g (lw_at lw_m2 156 rfl) rfl
theorem q504 : (Jvm.Cond.methodLinkNest "TableTower$Town" (27 : Nat) ({ cls := "TableTower$View", name := "<init>", desc := "()V" } : Jvm.MethodName) "TableTower") ∈ lw_tbl := lw_at lw_m2 158 rfl
theorem q525 : (Jvm.Cond.fieldLink "TableTower$Town" (7 : Nat) "TableTower$Town" "limit" "I") ∈ lw_all := lw_g (lw_at lw_m2 179 rfl) rfl
theorem q529 : (Jvm.Cond.fieldLink "TableTower$Town" (13 : Nat) "TableTower$Town" "food" "I") ∈ lw_all := lw_g (lw_at lw_m2 183 rfl) rfl
theorem q532 : (Jvm.Cond.fieldLink "TableTower$Town" (21 : Nat) "TableTower$Town" "tables" "Ljava/util/ArrayList;") ∈ lw_all := lw_g (lw_at lw_m2 186 rfl) rfl
theorem q536 : (Jvm.Cond.fieldLink "TableTower$Town" (38 : Nat) "TableTower$Town" "takes" "LTableTower$Expr;") ∈ lw_all := lw_g (lw_at lw_m2 190 rfl) rfl
theorem q538 : (Jvm.Cond.fieldLink "TableTower$Town" (28 : Nat) "TableTower$Town" "view" "LTableTower$View;") ∈ lw_all := lw_g (lw_at lw_m2 192 rfl) rfl
theorem q539 : (Jvm.Cond.lays "TableTower$Town" "TableTower$Town" "limit" "I") ∈ lw_all := lw_g (lw_at lw_m2 193 rfl) rfl
theorem q540 : (Jvm.Cond.soleField "TableTower$Town" "limit") ∈ lw_all := lw_g (lw_at lw_m2 194 rfl) rfl
theorem q541 : (Jvm.Cond.lays "TableTower$Town" "TableTower$Town" "food" "I") ∈ lw_all := lw_g (lw_at lw_m2 195 rfl) rfl
theorem q542 : (Jvm.Cond.soleField "TableTower$Town" "food") ∈ lw_all := lw_g (lw_at lw_m2 196 rfl) rfl
theorem q543 : (Jvm.Cond.laysFinal "TableTower$Town" "TableTower$Town" "tables" "Ljava/util/ArrayList;") ∈ lw_all := lw_g (lw_at lw_m2 197 rfl) rfl
theorem q544 : (Jvm.Cond.soleField "TableTower$Town" "tables") ∈ lw_all := lw_g (lw_at lw_m2 198 rfl) rfl
theorem q545 : (Jvm.Cond.lays "TableTower$Town" "TableTower$Town" "takes" "LTableTower$Expr;") ∈ lw_all := lw_g (lw_at lw_m2 199 rfl) rfl
theorem q546 : (Jvm.Cond.soleField "TableTower$Town" "takes") ∈ lw_all := lw_g (lw_at lw_m2 200 rfl) rfl
theorem q547 : (Jvm.Cond.laysFinal "TableTower$Town" "TableTower$Town" "view" "LTableTower$View;") ∈ lw_all := lw_g (lw_at lw_m2 201 rfl) rfl
theorem q548 : (Jvm.Cond.soleField "TableTower$Town" "view") ∈ lw_all := lw_g (lw_at lw_m2 202 rfl) rfl
theorem q549 : (Jvm.Cond.superclass "TableTower$Town" "java/lang/Object") ∈ lw_all := lw_g (lw_at lw_m2 203 rfl) rfl
theorem q632 : (Jvm.Cond.selects "TableTower$Town" ({ cls := "java/lang/Object", name := "getClass", desc := "()Ljava/lang/Class;" } : Jvm.MethodName) ({ cls := "java/lang/Object", name := "getClass", desc := "()Ljava/lang/Class;" } : Jvm.MethodName)) ∈ lw_all := lw_g (lw_at lw_m3 46 rfl) rfl
theorem q803 : (Jvm.Cond.instanceMethod ({ cls := "TableTower$Town", name := "takes", desc := "(IIII)I" } : Jvm.MethodName)) ∈ lw_all := lw_g (lw_at lw_m3 217 rfl) rfl
theorem q804 : (Jvm.Cond.selects "TableTower$Town" ({ cls := "TableTower$Town", name := "takes", desc := "(IIII)I" } : Jvm.MethodName) ({ cls := "TableTower$Town", name := "takes", desc := "(IIII)I" } : Jvm.MethodName)) ∈ lw_all := lw_g (lw_at lw_m3 218 rfl) rfl
theorem q805 : (Jvm.Cond.code ({ cls := "TableTower$Town", name := "takes", desc := "(IIII)I" } : Jvm.MethodName) prog_16_method_2_code (6 : Nat) (Option.some Jvm.ClassFile.FieldType.int)) ∈ lw_all := lw_g (lw_at lw_m3 219 rfl) rfl
theorem q806 : (Jvm.Cond.methodLink "TableTower$Town" (32 : Nat) ({ cls := "java/util/ArrayList", name := "get", desc := "(I)Ljava/lang/Object;" } : Jvm.MethodName)) ∈ lw_all := lw_g (lw_at lw_m3 220 rfl) rfl
theorem q807 : (Jvm.Cond.classLink "TableTower$Town" (36 : Nat) "TableTower$Pine") ∈ lw_all := lw_g (lw_at lw_m3 221 rfl) rfl
theorem q808 : (Jvm.Cond.methodLink "TableTower$Town" (45 : Nat) ({ cls := "java/lang/Math", name := "min", desc := "(II)I" } : Jvm.MethodName)) ∈ lw_all := lw_g (lw_at lw_m3 222 rfl) rfl
theorem q809 : (Jvm.Cond.fieldLink "TableTower$Town" (51 : Nat) "TableTower$Value" "LEVEL" "LTableTower$Value;") ∈ lw_all := lw_g (lw_at lw_m3 223 rfl) rfl
theorem q811 : (Jvm.Cond.methodLink "TableTower$Town" (57 : Nat) ({ cls := "TableTower$View", name := "sees", desc := "(LTableTower$Value;I)V" } : Jvm.MethodName)) ∈ lw_all := lw_g (lw_at lw_m3 225 rfl) rfl
theorem q821 : (Jvm.Cond.fieldLink "TableTower$Town" (61 : Nat) "TableTower$Value" "HUNGER" "LTableTower$Value;") ∈ lw_all := lw_g (lw_at lw_m3 235 rfl) rfl
theorem q823 : (Jvm.Cond.fieldLink "TableTower$Town" (64 : Nat) "TableTower$Value" "LEFT" "LTableTower$Value;") ∈ lw_all := lw_g (lw_at lw_m3 237 rfl) rfl
theorem q825 : (Jvm.Cond.fieldLink "TableTower$Town" (67 : Nat) "TableTower$Value" "KIND" "LTableTower$Value;") ∈ lw_all := lw_g (lw_at lw_m3 239 rfl) rfl
theorem q827 : (Jvm.Cond.methodLink "TableTower$Town" (70 : Nat) ({ cls := "TableTower$Pine", name := "kind", desc := "()I" } : Jvm.MethodName)) ∈ lw_all := lw_g (lw_at lw_m4 1 rfl) rfl
theorem q845 : (Jvm.Cond.fieldLink "TableTower$Town" (74 : Nat) "TableTower$Value" "ABOVE" "LTableTower$Value;") ∈ lw_all := lw_g (lw_at lw_m4 19 rfl) rfl
theorem q847 : (Jvm.Cond.fieldLink "TableTower$Town" (77 : Nat) "TableTower$Value" "WEIGHT" "LTableTower$Value;") ∈ lw_all := lw_g (lw_at lw_m4 21 rfl) rfl
theorem q849 : (Jvm.Cond.methodLink "TableTower$Town" (83 : Nat) ({ cls := "TableTower$Expr", name := "by", desc := "(LTableTower$View;)I" } : Jvm.MethodName)) ∈ lw_all := lw_g (lw_at lw_m4 23 rfl) rfl
theorem q867 : (Jvm.Cond.methodLink "TableTower$Town" (89 : Nat) ({ cls := "java/lang/Math", name := "max", desc := "(II)I" } : Jvm.MethodName)) ∈ lw_all := lw_g (lw_at lw_m4 41 rfl) rfl
theorem q1443 : (Jvm.Cond.fieldLink "TableTower$Town" (80 : Nat) "TableTower$Pine" "weight" "I") ∈ lw_all := lw_g (lw_at lw_m6 137 rfl) rfl
theorem q1450 : (Jvm.Cond.fieldLink "TableTower$Town" (42 : Nat) "TableTower$Pine" "hunger" "I") ∈ lw_all := lw_g (lw_at lw_m6 144 rfl) rfl
theorem q2395 : (Jvm.Cond.castable "TableTower$Town" "java/lang/Object") ∈ lw_tbl := lw_at lw_m10 129 rfl
theorem in_X2 : ∀ w ∈ wsX20, w ∈ lw_all := lw_in wsX20 [539, 541, 543, 545, 547] (by decide +kernel) (by decide +kernel)
/-! TableTower$View -/
set_option maxRecDepth 100000
def RX3 : String := "TableTower$View"
def TX3 : u_T := fun k => match k with
  | _ => ("TableTower$View", "of", "[I", true)
def tyX3 : Nat → FieldType := fun k => match k with
  | _ => .array .int
abbrev wsX30 : List Cond := u_ws RX3 TX3 1
theorem nmX3 : ∀ a, a < 1 → ∀ b, b < 1 → a ≠ b → (TX3 a).2.1 ≠ (TX3 b).2.1 := by decide +kernel
theorem tyX3_ok : ∀ k, k < 1 → parseFieldDescriptor (TX3 k).2.2.1 = some (tyX3 k) := by decide +kernel
abbrev cX3_init : ByteArray := prog_18_method_1_code
def yX3_init : MethodName := ⟨RX3, "<init>", "()V"⟩
def dkwX3_init_0 : List UInt8 := [42, 183, 0, 1, 42, 184, 0, 7, 190, 188, 10, 181, 0, 13, 177]
abbrev dktX3_init_0 : List UInt8 := dkwX3_init_0 ++ []
theorem dksX3_init_0 : cX3_init.data.toList.drop 0 = dktX3_init_0 := by decide +kernel
theorem dX3_init_0 : decode cX3_init 0 = .ok (.aload_n 0, 1) := dk_42 (dk_at dksX3_init_0 0 rfl rfl)
theorem dX3_init_1 : decode cX3_init 1 = .ok (.invokespecial 1, 3) := dk_183 0 1 (dk_at dksX3_init_0 1 rfl rfl)
theorem dX3_init_4 : decode cX3_init 4 = .ok (.aload_n 0, 1) := dk_42 (dk_at dksX3_init_0 4 rfl rfl)
theorem dX3_init_5 : decode cX3_init 5 = .ok (.invokestatic 7, 3) := dk_184 0 7 (dk_at dksX3_init_0 5 rfl rfl)
theorem dX3_init_8 : decode cX3_init 8 = .ok (.arraylength, 1) := dk_190 (dk_at dksX3_init_0 8 rfl rfl)
theorem dX3_init_9 : decode cX3_init 9 = .ok (.newarray .int, 2) := dk_188_10 (dk_at dksX3_init_0 9 rfl rfl)
theorem dX3_init_11 : decode cX3_init 11 = .ok (.putfield 13, 3) := dk_181 0 13 (dk_at dksX3_init_0 11 rfl rfl)
theorem dX3_init_14 : decode cX3_init 14 = .ok (.return_, 1) := dk_177 (dk_at dksX3_init_0 14 rfl rfl)
abbrev cX3_sees : ByteArray := prog_18_method_2_code
def yX3_sees : MethodName := ⟨RX3, "sees", "(LTableTower$Value;I)V"⟩
def dkwX3_sees_0 : List UInt8 := [42, 180, 0, 13, 43, 182, 0, 19, 28, 79, 177]
abbrev dktX3_sees_0 : List UInt8 := dkwX3_sees_0 ++ []
theorem dksX3_sees_0 : cX3_sees.data.toList.drop 0 = dktX3_sees_0 := by decide +kernel
theorem dX3_sees_0 : decode cX3_sees 0 = .ok (.aload_n 0, 1) := dk_42 (dk_at dksX3_sees_0 0 rfl rfl)
theorem dX3_sees_1 : decode cX3_sees 1 = .ok (.getfield 13, 3) := dk_180 0 13 (dk_at dksX3_sees_0 1 rfl rfl)
theorem dX3_sees_4 : decode cX3_sees 4 = .ok (.aload_n 1, 1) := dk_43 (dk_at dksX3_sees_0 4 rfl rfl)
theorem dX3_sees_5 : decode cX3_sees 5 = .ok (.invokevirtual 19, 3) := dk_182 0 19 (dk_at dksX3_sees_0 5 rfl rfl)
theorem dX3_sees_8 : decode cX3_sees 8 = .ok (.iload_n 2, 1) := dk_28 (dk_at dksX3_sees_0 8 rfl rfl)
theorem dX3_sees_9 : decode cX3_sees 9 = .ok (.iastore, 1) := dk_79 (dk_at dksX3_sees_0 9 rfl rfl)
theorem dX3_sees_10 : decode cX3_sees 10 = .ok (.return_, 1) := dk_177 (dk_at dksX3_sees_0 10 rfl rfl)
theorem q128 : (Jvm.Cond.initialized "TableTower$View") ∈ lw_all := lw_g (lw_at lw_m1 22 rfl) rfl
theorem q503 : (Jvm.Cond.instantiable "TableTower$View" (1 : Nat)) ∈ lw_all := lw_g (lw_at lw_m2 157 rfl) rfl
theorem q505 : (Jvm.Cond.instanceMethod ({ cls := "TableTower$View", name := "<init>", desc := "()V" } : Jvm.MethodName)) ∈ lw_all := lw_g (lw_at lw_m2 159 rfl) rfl
theorem q506 : (Jvm.Cond.code ({ cls := "TableTower$View", name := "<init>", desc := "()V" } : Jvm.MethodName) prog_18_method_1_code (1 : Nat) (Option.none : Option Jvm.ClassFile.FieldType)) ∈ lw_all := lw_g (lw_at lw_m2 160 rfl) rfl
theorem q507 : (Jvm.Cond.methodLink "TableTower$View" (1 : Nat) ({ cls := "java/lang/Object", name := "<init>", desc := "()V" } : Jvm.MethodName)) ∈ lw_all := lw_g (lw_at lw_m2 161 rfl) rfl
theorem q508 : (Jvm.Cond.methodLink "TableTower$View" (7 : Nat) ({ cls := "TableTower$Value", name := "values", desc := "()[LTableTower$Value;" } : Jvm.MethodName)) ∈ lw_all := lw_g (lw_at lw_m2 162 rfl) rfl
theorem q519 : (Jvm.Cond.fieldLink "TableTower$View" (13 : Nat) "TableTower$View" "of" "[I") ∈ lw_all := lw_g (lw_at lw_m2 173 rfl) rfl
theorem q521 : (Jvm.Cond.laysFinal "TableTower$View" "TableTower$View" "of" "[I") ∈ lw_all := lw_g (lw_at lw_m2 175 rfl) rfl
theorem q522 : (Jvm.Cond.soleField "TableTower$View" "of") ∈ lw_all := lw_g (lw_at lw_m2 176 rfl) rfl
theorem q523 : (Jvm.Cond.superclass "TableTower$View" "java/lang/Object") ∈ lw_all := lw_g (lw_at lw_m2 177 rfl) rfl
theorem q634 : (Jvm.Cond.selects "TableTower$View" ({ cls := "java/lang/Object", name := "getClass", desc := "()Ljava/lang/Class;" } : Jvm.MethodName) ({ cls := "java/lang/Object", name := "getClass", desc := "()Ljava/lang/Class;" } : Jvm.MethodName)) ∈ lw_all := lw_g (lw_at lw_m3 48 rfl) rfl
theorem q812 : (Jvm.Cond.instanceMethod ({ cls := "TableTower$View", name := "sees", desc := "(LTableTower$Value;I)V" } : Jvm.MethodName)) ∈ lw_all := lw_g (lw_at lw_m3 226 rfl) rfl
theorem q813 : (Jvm.Cond.selects "TableTower$View" ({ cls := "TableTower$View", name := "sees", desc := "(LTableTower$Value;I)V" } : Jvm.MethodName) ({ cls := "TableTower$View", name := "sees", desc := "(LTableTower$Value;I)V" } : Jvm.MethodName)) ∈ lw_all := lw_g (lw_at lw_m3 227 rfl) rfl
theorem q814 : (Jvm.Cond.code ({ cls := "TableTower$View", name := "sees", desc := "(LTableTower$Value;I)V" } : Jvm.MethodName) prog_18_method_2_code (3 : Nat) (Option.none : Option Jvm.ClassFile.FieldType)) ∈ lw_all := lw_g (lw_at lw_m3 228 rfl) rfl
theorem q815 : (Jvm.Cond.methodLink "TableTower$View" (19 : Nat) ({ cls := "TableTower$Value", name := "ordinal", desc := "()I" } : Jvm.MethodName)) ∈ lw_all := lw_g (lw_at lw_m3 229 rfl) rfl
theorem q2399 : (Jvm.Cond.castable "TableTower$View" "java/lang/Object") ∈ lw_tbl := lw_at lw_m10 133 rfl
theorem in_X3 : ∀ w ∈ wsX30, w ∈ lw_all := lw_in wsX30 [521] (by decide +kernel) (by decide +kernel)
/-! TableTower$Value -/
set_option maxRecDepth 100000
def RX4 : String := "TableTower$Value"
abbrev cX4_values : ByteArray := prog_17_method_1_code
def yX4_values : MethodName := ⟨RX4, "values", "()[LTableTower$Value;"⟩
def dkwX4_values_0 : List UInt8 := [178, 0, 22, 182, 0, 26, 192, 0, 27, 176]
abbrev dktX4_values_0 : List UInt8 := dkwX4_values_0 ++ []
theorem dksX4_values_0 : cX4_values.data.toList.drop 0 = dktX4_values_0 := by decide +kernel
theorem dX4_values_0 : decode cX4_values 0 = .ok (.getstatic 22, 3) := dk_178 0 22 (dk_at dksX4_values_0 0 rfl rfl)
theorem dX4_values_3 : decode cX4_values 3 = .ok (.invokevirtual 26, 3) := dk_182 0 26 (dk_at dksX4_values_0 3 rfl rfl)
theorem dX4_values_6 : decode cX4_values 6 = .ok (.checkcast 27, 3) := dk_192 0 27 (dk_at dksX4_values_0 6 rfl rfl)
theorem dX4_values_9 : decode cX4_values 9 = .ok (.areturn, 1) := dk_176 (dk_at dksX4_values_0 9 rfl rfl)
theorem q130 : (Jvm.Cond.initialized "TableTower$Value") ∈ lw_all := lw_g (lw_at lw_m1 24 rfl) rfl
theorem q509 : (Jvm.Cond.static ({ cls := "TableTower$Value", name := "values", desc := "()[LTableTower$Value;" } : Jvm.MethodName)) ∈ lw_all := lw_g (lw_at lw_m2 163 rfl) rfl
theorem q510 : (Jvm.Cond.code ({ cls := "TableTower$Value", name := "values", desc := "()[LTableTower$Value;" } : Jvm.MethodName) prog_17_method_1_code (0 : Nat) (Option.some (Jvm.ClassFile.FieldType.array (Jvm.ClassFile.FieldType.object "TableTower$Value")))) ∈ lw_all := lw_g (lw_at lw_m2 164 rfl) rfl
theorem q511 : (Jvm.Cond.fieldLink "TableTower$Value" (22 : Nat) "TableTower$Value" "$VALUES" "[LTableTower$Value;") ∈ lw_all := lw_g (lw_at lw_m2 165 rfl) rfl
theorem q512 : (Jvm.Cond.laysStatic "TableTower$Value" "$VALUES" "[LTableTower$Value;") ∈ lw_tbl := lw_at lw_m2 166 rfl
theorem q513 : (Jvm.Cond.methodLink "TableTower$Value" (26 : Nat) ({ cls := "[LTableTower$Value;", name := "clone", desc := "()Ljava/lang/Object;" } : Jvm.MethodName)) ∈ lw_all := lw_g (lw_at lw_m2 167 rfl) rfl
theorem q518 : (Jvm.Cond.classLink "TableTower$Value" (27 : Nat) "[LTableTower$Value;") ∈ lw_all := lw_g (lw_at lw_m2 172 rfl) rfl
theorem q633 : (Jvm.Cond.selects "TableTower$Value" ({ cls := "java/lang/Object", name := "getClass", desc := "()Ljava/lang/Class;" } : Jvm.MethodName) ({ cls := "java/lang/Object", name := "getClass", desc := "()Ljava/lang/Class;" } : Jvm.MethodName)) ∈ lw_all := lw_g (lw_at lw_m3 47 rfl) rfl
theorem q810 : (Jvm.Cond.laysStatic "TableTower$Value" "LEVEL" "LTableTower$Value;") ∈ lw_tbl := lw_at lw_m3 224 rfl
theorem q816 : (Jvm.Cond.sameMethod "TableTower$Value" "java/lang/Enum" "ordinal" "()I") ∈ lw_all := lw_g (lw_at lw_m3 230 rfl) rfl
theorem q818 : (Jvm.Cond.selects "TableTower$Value" ({ cls := "TableTower$Value", name := "ordinal", desc := "()I" } : Jvm.MethodName) ({ cls := "java/lang/Enum", name := "ordinal", desc := "()I" } : Jvm.MethodName)) ∈ lw_all := lw_g (lw_at lw_m3 232 rfl) rfl
theorem q822 : (Jvm.Cond.laysStatic "TableTower$Value" "HUNGER" "LTableTower$Value;") ∈ lw_tbl := lw_at lw_m3 236 rfl
theorem q824 : (Jvm.Cond.laysStatic "TableTower$Value" "LEFT" "LTableTower$Value;") ∈ lw_tbl := lw_at lw_m3 238 rfl
theorem q826 : (Jvm.Cond.laysStatic "TableTower$Value" "KIND" "LTableTower$Value;") ∈ lw_tbl := lw_at lw_m4 0 rfl
theorem q846 : (Jvm.Cond.laysStatic "TableTower$Value" "ABOVE" "LTableTower$Value;") ∈ lw_tbl := lw_at lw_m4 20 rfl
theorem q848 : (Jvm.Cond.laysStatic "TableTower$Value" "WEIGHT" "LTableTower$Value;") ∈ lw_tbl := lw_at lw_m4 22 rfl
theorem q2392 : (Jvm.Cond.castable "TableTower$Value" "java/lang/Object") ∈ lw_tbl := lw_at lw_m10 126 rfl
/-! TableTower$Book -/
set_option maxRecDepth 100000
def RX5 : String := "TableTower$Book"
def TX5 : u_T := fun k => match k with
  | 0 => ("TableTower$Book", "now", "LTableTower$State;", true)
  | 1 => ("TableTower$Book", "ahead", "Ljava/util/ArrayList;", true)
  | 2 => ("TableTower$Book", "level", "[I", true)
  | 3 => ("TableTower$Book", "tilt", "[I", true)
  | 4 => ("TableTower$Book", "refused", "[I", true)
  | 5 => ("TableTower$Book", "acts", "I", false)
  | _ => ("TableTower$Book", "many", "I", false)
def tyX5 : Nat → FieldType := fun k => match k with
  | 0 => .object "TableTower$State"
  | 1 => .object "java/util/ArrayList"
  | 2 => .array .int
  | 3 => .array .int
  | 4 => .array .int
  | 5 => .int
  | _ => .int
abbrev wsX50 : List Cond := u_ws RX5 TX5 7
theorem nmX5 : ∀ a, a < 7 → ∀ b, b < 7 → a ≠ b → (TX5 a).2.1 ≠ (TX5 b).2.1 := by decide +kernel
theorem tyX5_ok : ∀ k, k < 7 → parseFieldDescriptor (TX5 k).2.2.1 = some (tyX5 k) := by decide +kernel
abbrev cX5_init : ByteArray := prog_2_method_1_code
def yX5_init : MethodName := ⟨RX5, "<init>", "()V"⟩
def dkwX5_init_3 : List UInt8 := [182, 0, 37, 87, 132, 1, 1, 167, 255, 232, 177]
abbrev dktX5_init_3 : List UInt8 := dkwX5_init_3 ++ []
def dkwX5_init_2 : List UInt8 := [188, 10, 181, 0, 34, 3, 60, 27, 16, 40, 162, 0, 24, 42, 180, 0, 23, 187, 0, 9, 89, 183, 0, 11]
abbrev dktX5_init_2 : List UInt8 := dkwX5_init_2 ++ dktX5_init_3
def dkwX5_init_1 : List UInt8 := [183, 0, 20, 181, 0, 23, 42, 16, 8, 188, 10, 181, 0, 27, 42, 16, 8, 188, 10, 181, 0, 31, 42, 6]
abbrev dktX5_init_1 : List UInt8 := dkwX5_init_1 ++ dktX5_init_2
def dkwX5_init_0 : List UInt8 := [42, 183, 0, 3, 42, 187, 0, 9, 89, 183, 0, 11, 181, 0, 12, 42, 187, 0, 18, 89, 16, 40]
abbrev dktX5_init_0 : List UInt8 := dkwX5_init_0 ++ dktX5_init_1
theorem dksX5_init_0 : cX5_init.data.toList.drop 0 = dktX5_init_0 := by decide +kernel
theorem dksX5_init_1 : cX5_init.data.toList.drop 22 = dktX5_init_1 := dk_seg dksX5_init_0 22 rfl rfl
theorem dksX5_init_2 : cX5_init.data.toList.drop 46 = dktX5_init_2 := dk_seg dksX5_init_1 24 rfl rfl
theorem dksX5_init_3 : cX5_init.data.toList.drop 70 = dktX5_init_3 := dk_seg dksX5_init_2 24 rfl rfl
theorem dX5_init_0 : decode cX5_init 0 = .ok (.aload_n 0, 1) := dk_42 (dk_at dksX5_init_0 0 rfl rfl)
theorem dX5_init_1 : decode cX5_init 1 = .ok (.invokespecial 3, 3) := dk_183 0 3 (dk_at dksX5_init_0 1 rfl rfl)
theorem dX5_init_4 : decode cX5_init 4 = .ok (.aload_n 0, 1) := dk_42 (dk_at dksX5_init_0 4 rfl rfl)
theorem dX5_init_5 : decode cX5_init 5 = .ok (.new 9, 3) := dk_187 0 9 (dk_at dksX5_init_0 5 rfl rfl)
theorem dX5_init_8 : decode cX5_init 8 = .ok (.dup, 1) := dk_89 (dk_at dksX5_init_0 8 rfl rfl)
theorem dX5_init_9 : decode cX5_init 9 = .ok (.invokespecial 11, 3) := dk_183 0 11 (dk_at dksX5_init_0 9 rfl rfl)
theorem dX5_init_12 : decode cX5_init 12 = .ok (.putfield 12, 3) := dk_181 0 12 (dk_at dksX5_init_0 12 rfl rfl)
theorem dX5_init_15 : decode cX5_init 15 = .ok (.aload_n 0, 1) := dk_42 (dk_at dksX5_init_0 15 rfl rfl)
theorem dX5_init_16 : decode cX5_init 16 = .ok (.new 18, 3) := dk_187 0 18 (dk_at dksX5_init_0 16 rfl rfl)
theorem dX5_init_19 : decode cX5_init 19 = .ok (.dup, 1) := dk_89 (dk_at dksX5_init_0 19 rfl rfl)
theorem dX5_init_20 : decode cX5_init 20 = .ok (.bipush 40, 2) := dk_16 40 (dk_at dksX5_init_0 20 rfl rfl)
theorem dX5_init_22 : decode cX5_init 22 = .ok (.invokespecial 20, 3) := dk_183 0 20 (dk_at dksX5_init_1 0 rfl rfl)
theorem dX5_init_25 : decode cX5_init 25 = .ok (.putfield 23, 3) := dk_181 0 23 (dk_at dksX5_init_1 3 rfl rfl)
theorem dX5_init_28 : decode cX5_init 28 = .ok (.aload_n 0, 1) := dk_42 (dk_at dksX5_init_1 6 rfl rfl)
theorem dX5_init_29 : decode cX5_init 29 = .ok (.bipush 8, 2) := dk_16 8 (dk_at dksX5_init_1 7 rfl rfl)
theorem dX5_init_31 : decode cX5_init 31 = .ok (.newarray .int, 2) := dk_188_10 (dk_at dksX5_init_1 9 rfl rfl)
theorem dX5_init_33 : decode cX5_init 33 = .ok (.putfield 27, 3) := dk_181 0 27 (dk_at dksX5_init_1 11 rfl rfl)
theorem dX5_init_36 : decode cX5_init 36 = .ok (.aload_n 0, 1) := dk_42 (dk_at dksX5_init_1 14 rfl rfl)
theorem dX5_init_37 : decode cX5_init 37 = .ok (.bipush 8, 2) := dk_16 8 (dk_at dksX5_init_1 15 rfl rfl)
theorem dX5_init_39 : decode cX5_init 39 = .ok (.newarray .int, 2) := dk_188_10 (dk_at dksX5_init_1 17 rfl rfl)
theorem dX5_init_41 : decode cX5_init 41 = .ok (.putfield 31, 3) := dk_181 0 31 (dk_at dksX5_init_1 19 rfl rfl)
theorem dX5_init_44 : decode cX5_init 44 = .ok (.aload_n 0, 1) := dk_42 (dk_at dksX5_init_1 22 rfl rfl)
theorem dX5_init_45 : decode cX5_init 45 = .ok (.iconst 3, 1) := dk_6 (dk_at dksX5_init_1 23 rfl rfl)
theorem dX5_init_46 : decode cX5_init 46 = .ok (.newarray .int, 2) := dk_188_10 (dk_at dksX5_init_2 0 rfl rfl)
theorem dX5_init_48 : decode cX5_init 48 = .ok (.putfield 34, 3) := dk_181 0 34 (dk_at dksX5_init_2 2 rfl rfl)
theorem dX5_init_51 : decode cX5_init 51 = .ok (.iconst 0, 1) := dk_3 (dk_at dksX5_init_2 5 rfl rfl)
theorem dX5_init_52 : decode cX5_init 52 = .ok (.istore_n 1, 1) := dk_60 (dk_at dksX5_init_2 6 rfl rfl)
theorem dX5_init_53 : decode cX5_init 53 = .ok (.iload_n 1, 1) := dk_27 (dk_at dksX5_init_2 7 rfl rfl)
theorem dX5_init_54 : decode cX5_init 54 = .ok (.bipush 40, 2) := dk_16 40 (dk_at dksX5_init_2 8 rfl rfl)
theorem dX5_init_56 : decode cX5_init 56 = .ok (.if_icmp .ge 24, 3) := dk_162 0 24 (dk_at dksX5_init_2 10 rfl rfl)
theorem dX5_init_59 : decode cX5_init 59 = .ok (.aload_n 0, 1) := dk_42 (dk_at dksX5_init_2 13 rfl rfl)
theorem dX5_init_60 : decode cX5_init 60 = .ok (.getfield 23, 3) := dk_180 0 23 (dk_at dksX5_init_2 14 rfl rfl)
theorem dX5_init_63 : decode cX5_init 63 = .ok (.new 9, 3) := dk_187 0 9 (dk_at dksX5_init_2 17 rfl rfl)
theorem dX5_init_66 : decode cX5_init 66 = .ok (.dup, 1) := dk_89 (dk_at dksX5_init_2 20 rfl rfl)
theorem dX5_init_67 : decode cX5_init 67 = .ok (.invokespecial 11, 3) := dk_183 0 11 (dk_at dksX5_init_2 21 rfl rfl)
theorem dX5_init_70 : decode cX5_init 70 = .ok (.invokevirtual 37, 3) := dk_182 0 37 (dk_at dksX5_init_3 0 rfl rfl)
theorem dX5_init_73 : decode cX5_init 73 = .ok (.pop, 1) := dk_87 (dk_at dksX5_init_3 3 rfl rfl)
theorem dX5_init_74 : decode cX5_init 74 = .ok (.iinc 1 1, 3) := dk_132 1 1 (dk_at dksX5_init_3 4 rfl rfl)
theorem dX5_init_77 : decode cX5_init 77 = .ok (.goto (-24), 3) := dk_167 255 232 (dk_at dksX5_init_3 7 rfl rfl)
theorem dX5_init_80 : decode cX5_init 80 = .ok (.return_, 1) := dk_177 (dk_at dksX5_init_3 10 rfl rfl)
abbrev cX5_keeps : ByteArray := prog_2_method_2_code
def yX5_keeps : MethodName := ⟨RX5, "keeps", "()V"⟩
def dkwX5_keeps_2 : List UInt8 := [182, 0, 49, 192, 0, 9, 42, 180, 0, 12, 182, 0, 52, 42, 89, 180, 0, 41, 4, 96, 181, 0, 41, 177]
abbrev dktX5_keeps_2 : List UInt8 := dkwX5_keeps_2 ++ []
def dkwX5_keeps_1 : List UInt8 := [182, 0, 37, 87, 42, 89, 180, 0, 41, 4, 100, 181, 0, 41, 42, 180, 0, 23, 42, 180, 0, 41]
abbrev dktX5_keeps_1 : List UInt8 := dkwX5_keeps_1 ++ dktX5_keeps_2
def dkwX5_keeps_0 : List UInt8 := [42, 180, 0, 41, 16, 40, 160, 0, 32, 42, 180, 0, 23, 42, 180, 0, 23, 3, 182, 0, 45, 192, 0, 9]
abbrev dktX5_keeps_0 : List UInt8 := dkwX5_keeps_0 ++ dktX5_keeps_1
theorem dksX5_keeps_0 : cX5_keeps.data.toList.drop 0 = dktX5_keeps_0 := by decide +kernel
theorem dksX5_keeps_1 : cX5_keeps.data.toList.drop 24 = dktX5_keeps_1 := dk_seg dksX5_keeps_0 24 rfl rfl
theorem dksX5_keeps_2 : cX5_keeps.data.toList.drop 46 = dktX5_keeps_2 := dk_seg dksX5_keeps_1 22 rfl rfl
theorem dX5_keeps_0 : decode cX5_keeps 0 = .ok (.aload_n 0, 1) := dk_42 (dk_at dksX5_keeps_0 0 rfl rfl)
theorem dX5_keeps_1 : decode cX5_keeps 1 = .ok (.getfield 41, 3) := dk_180 0 41 (dk_at dksX5_keeps_0 1 rfl rfl)
theorem dX5_keeps_4 : decode cX5_keeps 4 = .ok (.bipush 40, 2) := dk_16 40 (dk_at dksX5_keeps_0 4 rfl rfl)
theorem dX5_keeps_6 : decode cX5_keeps 6 = .ok (.if_icmp .ne 32, 3) := dk_160 0 32 (dk_at dksX5_keeps_0 6 rfl rfl)
theorem dX5_keeps_9 : decode cX5_keeps 9 = .ok (.aload_n 0, 1) := dk_42 (dk_at dksX5_keeps_0 9 rfl rfl)
theorem dX5_keeps_10 : decode cX5_keeps 10 = .ok (.getfield 23, 3) := dk_180 0 23 (dk_at dksX5_keeps_0 10 rfl rfl)
theorem dX5_keeps_13 : decode cX5_keeps 13 = .ok (.aload_n 0, 1) := dk_42 (dk_at dksX5_keeps_0 13 rfl rfl)
theorem dX5_keeps_14 : decode cX5_keeps 14 = .ok (.getfield 23, 3) := dk_180 0 23 (dk_at dksX5_keeps_0 14 rfl rfl)
theorem dX5_keeps_17 : decode cX5_keeps 17 = .ok (.iconst 0, 1) := dk_3 (dk_at dksX5_keeps_0 17 rfl rfl)
theorem dX5_keeps_18 : decode cX5_keeps 18 = .ok (.invokevirtual 45, 3) := dk_182 0 45 (dk_at dksX5_keeps_0 18 rfl rfl)
theorem dX5_keeps_21 : decode cX5_keeps 21 = .ok (.checkcast 9, 3) := dk_192 0 9 (dk_at dksX5_keeps_0 21 rfl rfl)
theorem dX5_keeps_24 : decode cX5_keeps 24 = .ok (.invokevirtual 37, 3) := dk_182 0 37 (dk_at dksX5_keeps_1 0 rfl rfl)
theorem dX5_keeps_27 : decode cX5_keeps 27 = .ok (.pop, 1) := dk_87 (dk_at dksX5_keeps_1 3 rfl rfl)
theorem dX5_keeps_28 : decode cX5_keeps 28 = .ok (.aload_n 0, 1) := dk_42 (dk_at dksX5_keeps_1 4 rfl rfl)
theorem dX5_keeps_29 : decode cX5_keeps 29 = .ok (.dup, 1) := dk_89 (dk_at dksX5_keeps_1 5 rfl rfl)
theorem dX5_keeps_30 : decode cX5_keeps 30 = .ok (.getfield 41, 3) := dk_180 0 41 (dk_at dksX5_keeps_1 6 rfl rfl)
theorem dX5_keeps_33 : decode cX5_keeps 33 = .ok (.iconst 1, 1) := dk_4 (dk_at dksX5_keeps_1 9 rfl rfl)
theorem dX5_keeps_34 : decode cX5_keeps 34 = .ok (.isub, 1) := dk_100 (dk_at dksX5_keeps_1 10 rfl rfl)
theorem dX5_keeps_35 : decode cX5_keeps 35 = .ok (.putfield 41, 3) := dk_181 0 41 (dk_at dksX5_keeps_1 11 rfl rfl)
theorem dX5_keeps_38 : decode cX5_keeps 38 = .ok (.aload_n 0, 1) := dk_42 (dk_at dksX5_keeps_1 14 rfl rfl)
theorem dX5_keeps_39 : decode cX5_keeps 39 = .ok (.getfield 23, 3) := dk_180 0 23 (dk_at dksX5_keeps_1 15 rfl rfl)
theorem dX5_keeps_42 : decode cX5_keeps 42 = .ok (.aload_n 0, 1) := dk_42 (dk_at dksX5_keeps_1 18 rfl rfl)
theorem dX5_keeps_43 : decode cX5_keeps 43 = .ok (.getfield 41, 3) := dk_180 0 41 (dk_at dksX5_keeps_1 19 rfl rfl)
theorem dX5_keeps_46 : decode cX5_keeps 46 = .ok (.invokevirtual 49, 3) := dk_182 0 49 (dk_at dksX5_keeps_2 0 rfl rfl)
theorem dX5_keeps_49 : decode cX5_keeps 49 = .ok (.checkcast 9, 3) := dk_192 0 9 (dk_at dksX5_keeps_2 3 rfl rfl)
theorem dX5_keeps_52 : decode cX5_keeps 52 = .ok (.aload_n 0, 1) := dk_42 (dk_at dksX5_keeps_2 6 rfl rfl)
theorem dX5_keeps_53 : decode cX5_keeps 53 = .ok (.getfield 12, 3) := dk_180 0 12 (dk_at dksX5_keeps_2 7 rfl rfl)
theorem dX5_keeps_56 : decode cX5_keeps 56 = .ok (.invokevirtual 52, 3) := dk_182 0 52 (dk_at dksX5_keeps_2 10 rfl rfl)
theorem dX5_keeps_59 : decode cX5_keeps 59 = .ok (.aload_n 0, 1) := dk_42 (dk_at dksX5_keeps_2 13 rfl rfl)
theorem dX5_keeps_60 : decode cX5_keeps 60 = .ok (.dup, 1) := dk_89 (dk_at dksX5_keeps_2 14 rfl rfl)
theorem dX5_keeps_61 : decode cX5_keeps 61 = .ok (.getfield 41, 3) := dk_180 0 41 (dk_at dksX5_keeps_2 15 rfl rfl)
theorem dX5_keeps_64 : decode cX5_keeps 64 = .ok (.iconst 1, 1) := dk_4 (dk_at dksX5_keeps_2 18 rfl rfl)
theorem dX5_keeps_65 : decode cX5_keeps 65 = .ok (.iadd, 1) := dk_96 (dk_at dksX5_keeps_2 19 rfl rfl)
theorem dX5_keeps_66 : decode cX5_keeps 66 = .ok (.putfield 41, 3) := dk_181 0 41 (dk_at dksX5_keeps_2 20 rfl rfl)
theorem dX5_keeps_69 : decode cX5_keeps 69 = .ok (.return_, 1) := dk_177 (dk_at dksX5_keeps_2 23 rfl rfl)
abbrev cX5_like : ByteArray := prog_2_method_3_code
def yX5_like : MethodName := ⟨RX5, "like", "(LTableTower$Book;)V"⟩
def dkwX5_like_5 : List UInt8 := [177]
abbrev dktX5_like_5 : List UInt8 := dkwX5_like_5 ++ []
def dkwX5_like_4 : List UInt8 := [42, 180, 0, 34, 190, 184, 0, 56, 42, 43, 180, 0, 41, 181, 0, 41, 42, 43, 180, 0, 62, 181, 0, 62]
abbrev dktX5_like_4 : List UInt8 := dkwX5_like_4 ++ dktX5_like_5
def dkwX5_like_3 : List UInt8 := [180, 0, 31, 3, 42, 180, 0, 31, 3, 16, 8, 184, 0, 56, 43, 180, 0, 34, 3, 42, 180, 0, 34, 3]
abbrev dktX5_like_3 : List UInt8 := dkwX5_like_3 ++ dktX5_like_4
def dkwX5_like_2 : List UInt8 := [132, 2, 1, 167, 255, 220, 43, 180, 0, 27, 3, 42, 180, 0, 27, 3, 16, 8, 184, 0, 56, 43]
abbrev dktX5_like_2 : List UInt8 := dkwX5_like_2 ++ dktX5_like_3
def dkwX5_like_1 : List UInt8 := [180, 0, 23, 28, 182, 0, 49, 192, 0, 9, 43, 180, 0, 23, 28, 182, 0, 49, 192, 0, 9, 182, 0, 52]
abbrev dktX5_like_1 : List UInt8 := dkwX5_like_1 ++ dktX5_like_2
def dkwX5_like_0 : List UInt8 := [42, 180, 0, 12, 43, 180, 0, 12, 182, 0, 52, 3, 61, 28, 43, 180, 0, 41, 162, 0, 34, 42]
abbrev dktX5_like_0 : List UInt8 := dkwX5_like_0 ++ dktX5_like_1
theorem dksX5_like_0 : cX5_like.data.toList.drop 0 = dktX5_like_0 := by decide +kernel
theorem dksX5_like_1 : cX5_like.data.toList.drop 22 = dktX5_like_1 := dk_seg dksX5_like_0 22 rfl rfl
theorem dksX5_like_2 : cX5_like.data.toList.drop 46 = dktX5_like_2 := dk_seg dksX5_like_1 24 rfl rfl
theorem dksX5_like_3 : cX5_like.data.toList.drop 68 = dktX5_like_3 := dk_seg dksX5_like_2 22 rfl rfl
theorem dksX5_like_4 : cX5_like.data.toList.drop 92 = dktX5_like_4 := dk_seg dksX5_like_3 24 rfl rfl
theorem dksX5_like_5 : cX5_like.data.toList.drop 116 = dktX5_like_5 := dk_seg dksX5_like_4 24 rfl rfl
theorem dX5_like_0 : decode cX5_like 0 = .ok (.aload_n 0, 1) := dk_42 (dk_at dksX5_like_0 0 rfl rfl)
theorem dX5_like_1 : decode cX5_like 1 = .ok (.getfield 12, 3) := dk_180 0 12 (dk_at dksX5_like_0 1 rfl rfl)
theorem dX5_like_4 : decode cX5_like 4 = .ok (.aload_n 1, 1) := dk_43 (dk_at dksX5_like_0 4 rfl rfl)
theorem dX5_like_5 : decode cX5_like 5 = .ok (.getfield 12, 3) := dk_180 0 12 (dk_at dksX5_like_0 5 rfl rfl)
theorem dX5_like_8 : decode cX5_like 8 = .ok (.invokevirtual 52, 3) := dk_182 0 52 (dk_at dksX5_like_0 8 rfl rfl)
theorem dX5_like_11 : decode cX5_like 11 = .ok (.iconst 0, 1) := dk_3 (dk_at dksX5_like_0 11 rfl rfl)
theorem dX5_like_12 : decode cX5_like 12 = .ok (.istore_n 2, 1) := dk_61 (dk_at dksX5_like_0 12 rfl rfl)
theorem dX5_like_13 : decode cX5_like 13 = .ok (.iload_n 2, 1) := dk_28 (dk_at dksX5_like_0 13 rfl rfl)
theorem dX5_like_14 : decode cX5_like 14 = .ok (.aload_n 1, 1) := dk_43 (dk_at dksX5_like_0 14 rfl rfl)
theorem dX5_like_15 : decode cX5_like 15 = .ok (.getfield 41, 3) := dk_180 0 41 (dk_at dksX5_like_0 15 rfl rfl)
theorem dX5_like_18 : decode cX5_like 18 = .ok (.if_icmp .ge 34, 3) := dk_162 0 34 (dk_at dksX5_like_0 18 rfl rfl)
theorem dX5_like_21 : decode cX5_like 21 = .ok (.aload_n 0, 1) := dk_42 (dk_at dksX5_like_0 21 rfl rfl)
theorem dX5_like_22 : decode cX5_like 22 = .ok (.getfield 23, 3) := dk_180 0 23 (dk_at dksX5_like_1 0 rfl rfl)
theorem dX5_like_25 : decode cX5_like 25 = .ok (.iload_n 2, 1) := dk_28 (dk_at dksX5_like_1 3 rfl rfl)
theorem dX5_like_26 : decode cX5_like 26 = .ok (.invokevirtual 49, 3) := dk_182 0 49 (dk_at dksX5_like_1 4 rfl rfl)
theorem dX5_like_29 : decode cX5_like 29 = .ok (.checkcast 9, 3) := dk_192 0 9 (dk_at dksX5_like_1 7 rfl rfl)
theorem dX5_like_32 : decode cX5_like 32 = .ok (.aload_n 1, 1) := dk_43 (dk_at dksX5_like_1 10 rfl rfl)
theorem dX5_like_33 : decode cX5_like 33 = .ok (.getfield 23, 3) := dk_180 0 23 (dk_at dksX5_like_1 11 rfl rfl)
theorem dX5_like_36 : decode cX5_like 36 = .ok (.iload_n 2, 1) := dk_28 (dk_at dksX5_like_1 14 rfl rfl)
theorem dX5_like_37 : decode cX5_like 37 = .ok (.invokevirtual 49, 3) := dk_182 0 49 (dk_at dksX5_like_1 15 rfl rfl)
theorem dX5_like_40 : decode cX5_like 40 = .ok (.checkcast 9, 3) := dk_192 0 9 (dk_at dksX5_like_1 18 rfl rfl)
theorem dX5_like_43 : decode cX5_like 43 = .ok (.invokevirtual 52, 3) := dk_182 0 52 (dk_at dksX5_like_1 21 rfl rfl)
theorem dX5_like_46 : decode cX5_like 46 = .ok (.iinc 2 1, 3) := dk_132 2 1 (dk_at dksX5_like_2 0 rfl rfl)
theorem dX5_like_49 : decode cX5_like 49 = .ok (.goto (-36), 3) := dk_167 255 220 (dk_at dksX5_like_2 3 rfl rfl)
theorem dX5_like_52 : decode cX5_like 52 = .ok (.aload_n 1, 1) := dk_43 (dk_at dksX5_like_2 6 rfl rfl)
theorem dX5_like_53 : decode cX5_like 53 = .ok (.getfield 27, 3) := dk_180 0 27 (dk_at dksX5_like_2 7 rfl rfl)
theorem dX5_like_56 : decode cX5_like 56 = .ok (.iconst 0, 1) := dk_3 (dk_at dksX5_like_2 10 rfl rfl)
theorem dX5_like_57 : decode cX5_like 57 = .ok (.aload_n 0, 1) := dk_42 (dk_at dksX5_like_2 11 rfl rfl)
theorem dX5_like_58 : decode cX5_like 58 = .ok (.getfield 27, 3) := dk_180 0 27 (dk_at dksX5_like_2 12 rfl rfl)
theorem dX5_like_61 : decode cX5_like 61 = .ok (.iconst 0, 1) := dk_3 (dk_at dksX5_like_2 15 rfl rfl)
theorem dX5_like_62 : decode cX5_like 62 = .ok (.bipush 8, 2) := dk_16 8 (dk_at dksX5_like_2 16 rfl rfl)
theorem dX5_like_64 : decode cX5_like 64 = .ok (.invokestatic 56, 3) := dk_184 0 56 (dk_at dksX5_like_2 18 rfl rfl)
theorem dX5_like_67 : decode cX5_like 67 = .ok (.aload_n 1, 1) := dk_43 (dk_at dksX5_like_2 21 rfl rfl)
theorem dX5_like_68 : decode cX5_like 68 = .ok (.getfield 31, 3) := dk_180 0 31 (dk_at dksX5_like_3 0 rfl rfl)
theorem dX5_like_71 : decode cX5_like 71 = .ok (.iconst 0, 1) := dk_3 (dk_at dksX5_like_3 3 rfl rfl)
theorem dX5_like_72 : decode cX5_like 72 = .ok (.aload_n 0, 1) := dk_42 (dk_at dksX5_like_3 4 rfl rfl)
theorem dX5_like_73 : decode cX5_like 73 = .ok (.getfield 31, 3) := dk_180 0 31 (dk_at dksX5_like_3 5 rfl rfl)
theorem dX5_like_76 : decode cX5_like 76 = .ok (.iconst 0, 1) := dk_3 (dk_at dksX5_like_3 8 rfl rfl)
theorem dX5_like_77 : decode cX5_like 77 = .ok (.bipush 8, 2) := dk_16 8 (dk_at dksX5_like_3 9 rfl rfl)
theorem dX5_like_79 : decode cX5_like 79 = .ok (.invokestatic 56, 3) := dk_184 0 56 (dk_at dksX5_like_3 11 rfl rfl)
theorem dX5_like_82 : decode cX5_like 82 = .ok (.aload_n 1, 1) := dk_43 (dk_at dksX5_like_3 14 rfl rfl)
theorem dX5_like_83 : decode cX5_like 83 = .ok (.getfield 34, 3) := dk_180 0 34 (dk_at dksX5_like_3 15 rfl rfl)
theorem dX5_like_86 : decode cX5_like 86 = .ok (.iconst 0, 1) := dk_3 (dk_at dksX5_like_3 18 rfl rfl)
theorem dX5_like_87 : decode cX5_like 87 = .ok (.aload_n 0, 1) := dk_42 (dk_at dksX5_like_3 19 rfl rfl)
theorem dX5_like_88 : decode cX5_like 88 = .ok (.getfield 34, 3) := dk_180 0 34 (dk_at dksX5_like_3 20 rfl rfl)
theorem dX5_like_91 : decode cX5_like 91 = .ok (.iconst 0, 1) := dk_3 (dk_at dksX5_like_3 23 rfl rfl)
theorem dX5_like_92 : decode cX5_like 92 = .ok (.aload_n 0, 1) := dk_42 (dk_at dksX5_like_4 0 rfl rfl)
theorem dX5_like_93 : decode cX5_like 93 = .ok (.getfield 34, 3) := dk_180 0 34 (dk_at dksX5_like_4 1 rfl rfl)
theorem dX5_like_96 : decode cX5_like 96 = .ok (.arraylength, 1) := dk_190 (dk_at dksX5_like_4 4 rfl rfl)
theorem dX5_like_97 : decode cX5_like 97 = .ok (.invokestatic 56, 3) := dk_184 0 56 (dk_at dksX5_like_4 5 rfl rfl)
theorem dX5_like_100 : decode cX5_like 100 = .ok (.aload_n 0, 1) := dk_42 (dk_at dksX5_like_4 8 rfl rfl)
theorem dX5_like_101 : decode cX5_like 101 = .ok (.aload_n 1, 1) := dk_43 (dk_at dksX5_like_4 9 rfl rfl)
theorem dX5_like_102 : decode cX5_like 102 = .ok (.getfield 41, 3) := dk_180 0 41 (dk_at dksX5_like_4 10 rfl rfl)
theorem dX5_like_105 : decode cX5_like 105 = .ok (.putfield 41, 3) := dk_181 0 41 (dk_at dksX5_like_4 13 rfl rfl)
theorem dX5_like_108 : decode cX5_like 108 = .ok (.aload_n 0, 1) := dk_42 (dk_at dksX5_like_4 16 rfl rfl)
theorem dX5_like_109 : decode cX5_like 109 = .ok (.aload_n 1, 1) := dk_43 (dk_at dksX5_like_4 17 rfl rfl)
theorem dX5_like_110 : decode cX5_like 110 = .ok (.getfield 62, 3) := dk_180 0 62 (dk_at dksX5_like_4 18 rfl rfl)
theorem dX5_like_113 : decode cX5_like 113 = .ok (.putfield 62, 3) := dk_181 0 62 (dk_at dksX5_like_4 21 rfl rfl)
theorem dX5_like_116 : decode cX5_like 116 = .ok (.return_, 1) := dk_177 (dk_at dksX5_like_5 0 rfl rfl)
theorem q131 : (Jvm.Cond.initialized "TableTower$Book") ∈ lw_all := lw_g (lw_at lw_m1 25 rfl) rfl
theorem q551 : (Jvm.Cond.instantiable "TableTower$Book" (7 : Nat)) ∈ lw_all := lw_g (lw_at lw_m2 205 rfl) rfl
theorem q553 : (Jvm.Cond.instanceMethod ({ cls := "TableTower$Book", name := "<init>", desc := "()V" } : Jvm.MethodName)) ∈ lw_all := lw_g (lw_at lw_m2 207 rfl) rfl
theorem q554 : (Jvm.Cond.code ({ cls := "TableTower$Book", name := "<init>", desc := "()V" } : Jvm.MethodName) prog_2_method_1_code (2 : Nat) (Option.none : Option Jvm.ClassFile.FieldType)) ∈ lw_all := lw_g (lw_at lw_m2 208 rfl) rfl
theorem q555 : (Jvm.Cond.methodLink "TableTower$Book" (3 : Nat) ({ cls := "java/lang/Object", name := "<init>", desc := "()V" } : Jvm.MethodName)) ∈ lw_all := lw_g (lw_at lw_m2 209 rfl) rfl
theorem q556 : (Jvm.Cond.classLink "TableTower$Book" (9 : Nat) "TableTower$State") ∈ lw_all := lw_g (lw_at lw_m2 210 rfl) rfl
theorem q558 : (Jvm.Cond.methodLinkNest "TableTower$Book" (11 : Nat) ({ cls := "TableTower$State", name := "<init>", desc := "()V" } : Jvm.MethodName) "TableTower") ∈ lw_tbl := lw_at lw_m2 212 rfl
theorem q591 : (Jvm.Cond.classLink "TableTower$Book" (18 : Nat) "java/util/ArrayList") ∈ lw_all := lw_g (lw_at lw_m3 5 rfl) rfl
theorem q592 : (Jvm.Cond.methodLink "TableTower$Book" (20 : Nat) ({ cls := "java/util/ArrayList", name := "<init>", desc := "(I)V" } : Jvm.MethodName)) ∈ lw_all := lw_g (lw_at lw_m3 6 rfl) rfl
theorem q593 : (Jvm.Cond.methodLink "TableTower$Book" (37 : Nat) ({ cls := "java/util/ArrayList", name := "add", desc := "(Ljava/lang/Object;)Z" } : Jvm.MethodName)) ∈ lw_all := lw_g (lw_at lw_m3 7 rfl) rfl
theorem q619 : (Jvm.Cond.selects "TableTower$Book" ({ cls := "java/lang/Object", name := "getClass", desc := "()Ljava/lang/Class;" } : Jvm.MethodName) ({ cls := "java/lang/Object", name := "getClass", desc := "()Ljava/lang/Class;" } : Jvm.MethodName)) ∈ lw_all := lw_g (lw_at lw_m3 33 rfl) rfl
theorem q648 : (Jvm.Cond.fieldLink "TableTower$Book" (12 : Nat) "TableTower$Book" "now" "LTableTower$State;") ∈ lw_all := lw_g (lw_at lw_m3 62 rfl) rfl
theorem q650 : (Jvm.Cond.fieldLink "TableTower$Book" (23 : Nat) "TableTower$Book" "ahead" "Ljava/util/ArrayList;") ∈ lw_all := lw_g (lw_at lw_m3 64 rfl) rfl
theorem q652 : (Jvm.Cond.fieldLink "TableTower$Book" (27 : Nat) "TableTower$Book" "level" "[I") ∈ lw_all := lw_g (lw_at lw_m3 66 rfl) rfl
theorem q654 : (Jvm.Cond.fieldLink "TableTower$Book" (31 : Nat) "TableTower$Book" "tilt" "[I") ∈ lw_all := lw_g (lw_at lw_m3 68 rfl) rfl
theorem q656 : (Jvm.Cond.fieldLink "TableTower$Book" (34 : Nat) "TableTower$Book" "refused" "[I") ∈ lw_all := lw_g (lw_at lw_m3 70 rfl) rfl
theorem q658 : (Jvm.Cond.fieldLink "TableTower$Book" (41 : Nat) "TableTower$Book" "acts" "I") ∈ lw_all := lw_g (lw_at lw_m3 72 rfl) rfl
theorem q660 : (Jvm.Cond.fieldLink "TableTower$Book" (62 : Nat) "TableTower$Book" "many" "I") ∈ lw_all := lw_g (lw_at lw_m3 74 rfl) rfl
theorem q662 : (Jvm.Cond.laysFinal "TableTower$Book" "TableTower$Book" "now" "LTableTower$State;") ∈ lw_all := lw_g (lw_at lw_m3 76 rfl) rfl
theorem q663 : (Jvm.Cond.soleField "TableTower$Book" "now") ∈ lw_all := lw_g (lw_at lw_m3 77 rfl) rfl
theorem q664 : (Jvm.Cond.laysFinal "TableTower$Book" "TableTower$Book" "ahead" "Ljava/util/ArrayList;") ∈ lw_all := lw_g (lw_at lw_m3 78 rfl) rfl
theorem q665 : (Jvm.Cond.soleField "TableTower$Book" "ahead") ∈ lw_all := lw_g (lw_at lw_m3 79 rfl) rfl
theorem q666 : (Jvm.Cond.laysFinal "TableTower$Book" "TableTower$Book" "level" "[I") ∈ lw_all := lw_g (lw_at lw_m3 80 rfl) rfl
theorem q667 : (Jvm.Cond.soleField "TableTower$Book" "level") ∈ lw_all := lw_g (lw_at lw_m3 81 rfl) rfl
theorem q668 : (Jvm.Cond.laysFinal "TableTower$Book" "TableTower$Book" "tilt" "[I") ∈ lw_all := lw_g (lw_at lw_m3 82 rfl) rfl
theorem q669 : (Jvm.Cond.soleField "TableTower$Book" "tilt") ∈ lw_all := lw_g (lw_at lw_m3 83 rfl) rfl
theorem q670 : (Jvm.Cond.laysFinal "TableTower$Book" "TableTower$Book" "refused" "[I") ∈ lw_all := lw_g (lw_at lw_m3 84 rfl) rfl
theorem q671 : (Jvm.Cond.soleField "TableTower$Book" "refused") ∈ lw_all := lw_g (lw_at lw_m3 85 rfl) rfl
theorem q672 : (Jvm.Cond.lays "TableTower$Book" "TableTower$Book" "acts" "I") ∈ lw_all := lw_g (lw_at lw_m3 86 rfl) rfl
theorem q673 : (Jvm.Cond.soleField "TableTower$Book" "acts") ∈ lw_all := lw_g (lw_at lw_m3 87 rfl) rfl
theorem q674 : (Jvm.Cond.lays "TableTower$Book" "TableTower$Book" "many" "I") ∈ lw_all := lw_g (lw_at lw_m3 88 rfl) rfl
theorem q675 : (Jvm.Cond.soleField "TableTower$Book" "many") ∈ lw_all := lw_g (lw_at lw_m3 89 rfl) rfl
theorem q676 : (Jvm.Cond.superclass "TableTower$Book" "java/lang/Object") ∈ lw_all := lw_g (lw_at lw_m3 90 rfl) rfl
theorem q780 : (Jvm.Cond.instanceMethod ({ cls := "TableTower$Book", name := "keeps", desc := "()V" } : Jvm.MethodName)) ∈ lw_all := lw_g (lw_at lw_m3 194 rfl) rfl
theorem q781 : (Jvm.Cond.selects "TableTower$Book" ({ cls := "TableTower$Book", name := "keeps", desc := "()V" } : Jvm.MethodName) ({ cls := "TableTower$Book", name := "keeps", desc := "()V" } : Jvm.MethodName)) ∈ lw_all := lw_g (lw_at lw_m3 195 rfl) rfl
theorem q782 : (Jvm.Cond.code ({ cls := "TableTower$Book", name := "keeps", desc := "()V" } : Jvm.MethodName) prog_2_method_2_code (1 : Nat) (Option.none : Option Jvm.ClassFile.FieldType)) ∈ lw_all := lw_g (lw_at lw_m3 196 rfl) rfl
theorem q783 : (Jvm.Cond.methodLink "TableTower$Book" (45 : Nat) ({ cls := "java/util/ArrayList", name := "remove", desc := "(I)Ljava/lang/Object;" } : Jvm.MethodName)) ∈ lw_all := lw_g (lw_at lw_m3 197 rfl) rfl
theorem q792 : (Jvm.Cond.methodLink "TableTower$Book" (49 : Nat) ({ cls := "java/util/ArrayList", name := "get", desc := "(I)Ljava/lang/Object;" } : Jvm.MethodName)) ∈ lw_all := lw_g (lw_at lw_m3 206 rfl) rfl
theorem q793 : (Jvm.Cond.methodLink "TableTower$Book" (52 : Nat) ({ cls := "TableTower$State", name := "like", desc := "(LTableTower$State;)V" } : Jvm.MethodName)) ∈ lw_all := lw_g (lw_at lw_m3 207 rfl) rfl
theorem q1121 : (Jvm.Cond.instanceMethod ({ cls := "TableTower$Book", name := "like", desc := "(LTableTower$Book;)V" } : Jvm.MethodName)) ∈ lw_all := lw_g (lw_at lw_m5 55 rfl) rfl
theorem q1122 : (Jvm.Cond.selects "TableTower$Book" ({ cls := "TableTower$Book", name := "like", desc := "(LTableTower$Book;)V" } : Jvm.MethodName) ({ cls := "TableTower$Book", name := "like", desc := "(LTableTower$Book;)V" } : Jvm.MethodName)) ∈ lw_all := lw_g (lw_at lw_m5 56 rfl) rfl
theorem q1123 : (Jvm.Cond.code ({ cls := "TableTower$Book", name := "like", desc := "(LTableTower$Book;)V" } : Jvm.MethodName) prog_2_method_3_code (3 : Nat) (Option.none : Option Jvm.ClassFile.FieldType)) ∈ lw_all := lw_g (lw_at lw_m5 57 rfl) rfl
theorem q1124 : (Jvm.Cond.methodLink "TableTower$Book" (56 : Nat) ({ cls := "java/lang/System", name := "arraycopy", desc := "(Ljava/lang/Object;ILjava/lang/Object;II)V" } : Jvm.MethodName)) ∈ lw_all := lw_g (lw_at lw_m5 58 rfl) rfl
theorem q2400 : (Jvm.Cond.castable "TableTower$Book" "java/lang/Object") ∈ lw_tbl := lw_at lw_m10 134 rfl
theorem in_X5 : ∀ w ∈ wsX50, w ∈ lw_all := lw_in wsX50 [662, 664, 666, 668, 670, 672, 674] (by decide +kernel) (by decide +kernel)
/-! TableTower$State -/
set_option maxRecDepth 100000
def RX6 : String := "TableTower$State"
def TX6 : u_T := fun k => match k with
  | 0 => ("TableTower$State", "tower", "[I", true)
  | 1 => ("TableTower$State", "meal", "[I", true)
  | 2 => ("TableTower$State", "wedge", "[I", true)
  | 3 => ("TableTower$State", "lean", "[I", true)
  | 4 => ("TableTower$State", "levels", "I", false)
  | 5 => ("TableTower$State", "years", "I", false)
  | _ => ("TableTower$State", "crumbs", "I", false)
def tyX6 : Nat → FieldType := fun k => match k with
  | 0 => .array .int
  | 1 => .array .int
  | 2 => .array .int
  | 3 => .array .int
  | 4 => .int
  | 5 => .int
  | _ => .int
abbrev wsX60 : List Cond := u_ws RX6 TX6 7
theorem nmX6 : ∀ a, a < 7 → ∀ b, b < 7 → a ≠ b → (TX6 a).2.1 ≠ (TX6 b).2.1 := by decide +kernel
theorem tyX6_ok : ∀ k, k < 7 → parseFieldDescriptor (TX6 k).2.2.1 = some (tyX6 k) := by decide +kernel
abbrev cX6_init : ByteArray := prog_14_method_1_code
def yX6_init : MethodName := ⟨RX6, "<init>", "()V"⟩
def dkwX6_init_1 : List UInt8 := [188, 10, 181, 0, 18, 42, 16, 10, 188, 10, 181, 0, 21, 177]
abbrev dktX6_init_1 : List UInt8 := dkwX6_init_1 ++ []
def dkwX6_init_0 : List UInt8 := [42, 183, 0, 3, 42, 16, 10, 188, 10, 181, 0, 9, 42, 16, 10, 188, 10, 181, 0, 15, 42, 16, 10]
abbrev dktX6_init_0 : List UInt8 := dkwX6_init_0 ++ dktX6_init_1
theorem dksX6_init_0 : cX6_init.data.toList.drop 0 = dktX6_init_0 := by decide +kernel
theorem dksX6_init_1 : cX6_init.data.toList.drop 23 = dktX6_init_1 := dk_seg dksX6_init_0 23 rfl rfl
theorem dX6_init_0 : decode cX6_init 0 = .ok (.aload_n 0, 1) := dk_42 (dk_at dksX6_init_0 0 rfl rfl)
theorem dX6_init_1 : decode cX6_init 1 = .ok (.invokespecial 3, 3) := dk_183 0 3 (dk_at dksX6_init_0 1 rfl rfl)
theorem dX6_init_4 : decode cX6_init 4 = .ok (.aload_n 0, 1) := dk_42 (dk_at dksX6_init_0 4 rfl rfl)
theorem dX6_init_5 : decode cX6_init 5 = .ok (.bipush 10, 2) := dk_16 10 (dk_at dksX6_init_0 5 rfl rfl)
theorem dX6_init_7 : decode cX6_init 7 = .ok (.newarray .int, 2) := dk_188_10 (dk_at dksX6_init_0 7 rfl rfl)
theorem dX6_init_9 : decode cX6_init 9 = .ok (.putfield 9, 3) := dk_181 0 9 (dk_at dksX6_init_0 9 rfl rfl)
theorem dX6_init_12 : decode cX6_init 12 = .ok (.aload_n 0, 1) := dk_42 (dk_at dksX6_init_0 12 rfl rfl)
theorem dX6_init_13 : decode cX6_init 13 = .ok (.bipush 10, 2) := dk_16 10 (dk_at dksX6_init_0 13 rfl rfl)
theorem dX6_init_15 : decode cX6_init 15 = .ok (.newarray .int, 2) := dk_188_10 (dk_at dksX6_init_0 15 rfl rfl)
theorem dX6_init_17 : decode cX6_init 17 = .ok (.putfield 15, 3) := dk_181 0 15 (dk_at dksX6_init_0 17 rfl rfl)
theorem dX6_init_20 : decode cX6_init 20 = .ok (.aload_n 0, 1) := dk_42 (dk_at dksX6_init_0 20 rfl rfl)
theorem dX6_init_21 : decode cX6_init 21 = .ok (.bipush 10, 2) := dk_16 10 (dk_at dksX6_init_0 21 rfl rfl)
theorem dX6_init_23 : decode cX6_init 23 = .ok (.newarray .int, 2) := dk_188_10 (dk_at dksX6_init_1 0 rfl rfl)
theorem dX6_init_25 : decode cX6_init 25 = .ok (.putfield 18, 3) := dk_181 0 18 (dk_at dksX6_init_1 2 rfl rfl)
theorem dX6_init_28 : decode cX6_init 28 = .ok (.aload_n 0, 1) := dk_42 (dk_at dksX6_init_1 5 rfl rfl)
theorem dX6_init_29 : decode cX6_init 29 = .ok (.bipush 10, 2) := dk_16 10 (dk_at dksX6_init_1 6 rfl rfl)
theorem dX6_init_31 : decode cX6_init 31 = .ok (.newarray .int, 2) := dk_188_10 (dk_at dksX6_init_1 8 rfl rfl)
theorem dX6_init_33 : decode cX6_init 33 = .ok (.putfield 21, 3) := dk_181 0 21 (dk_at dksX6_init_1 10 rfl rfl)
theorem dX6_init_36 : decode cX6_init 36 = .ok (.return_, 1) := dk_177 (dk_at dksX6_init_1 13 rfl rfl)
abbrev cX6_begins : ByteArray := prog_14_method_2_code
def yX6_begins : MethodName := ⟨RX6, "begins", "(LTableTower$Town;)V"⟩
def dkwX6_begins_3 : List UInt8 := [180, 0, 52, 79, 132, 2, 1, 167, 255, 204, 177]
abbrev dktX6_begins_3 : List UInt8 := dkwX6_begins_3 ++ []
def dkwX6_begins_2 : List UInt8 := [180, 0, 18, 28, 3, 79, 42, 180, 0, 21, 28, 43, 180, 0, 24, 28, 182, 0, 46, 192, 0, 50]
abbrev dktX6_begins_2 : List UInt8 := dkwX6_begins_2 ++ dktX6_begins_3
def dkwX6_begins_1 : List UInt8 := [42, 180, 0, 36, 162, 0, 50, 42, 180, 0, 9, 28, 28, 79, 42, 180, 0, 15, 28, 3, 79, 42]
abbrev dktX6_begins_1 : List UInt8 := dkwX6_begins_1 ++ dktX6_begins_2
def dkwX6_begins_0 : List UInt8 := [42, 43, 180, 0, 24, 182, 0, 30, 181, 0, 36, 42, 3, 181, 0, 40, 42, 2, 181, 0, 43, 3, 61, 28]
abbrev dktX6_begins_0 : List UInt8 := dkwX6_begins_0 ++ dktX6_begins_1
theorem dksX6_begins_0 : cX6_begins.data.toList.drop 0 = dktX6_begins_0 := by decide +kernel
theorem dksX6_begins_1 : cX6_begins.data.toList.drop 24 = dktX6_begins_1 := dk_seg dksX6_begins_0 24 rfl rfl
theorem dksX6_begins_2 : cX6_begins.data.toList.drop 46 = dktX6_begins_2 := dk_seg dksX6_begins_1 22 rfl rfl
theorem dksX6_begins_3 : cX6_begins.data.toList.drop 68 = dktX6_begins_3 := dk_seg dksX6_begins_2 22 rfl rfl
theorem dX6_begins_0 : decode cX6_begins 0 = .ok (.aload_n 0, 1) := dk_42 (dk_at dksX6_begins_0 0 rfl rfl)
theorem dX6_begins_1 : decode cX6_begins 1 = .ok (.aload_n 1, 1) := dk_43 (dk_at dksX6_begins_0 1 rfl rfl)
theorem dX6_begins_2 : decode cX6_begins 2 = .ok (.getfield 24, 3) := dk_180 0 24 (dk_at dksX6_begins_0 2 rfl rfl)
theorem dX6_begins_5 : decode cX6_begins 5 = .ok (.invokevirtual 30, 3) := dk_182 0 30 (dk_at dksX6_begins_0 5 rfl rfl)
theorem dX6_begins_8 : decode cX6_begins 8 = .ok (.putfield 36, 3) := dk_181 0 36 (dk_at dksX6_begins_0 8 rfl rfl)
theorem dX6_begins_11 : decode cX6_begins 11 = .ok (.aload_n 0, 1) := dk_42 (dk_at dksX6_begins_0 11 rfl rfl)
theorem dX6_begins_12 : decode cX6_begins 12 = .ok (.iconst 0, 1) := dk_3 (dk_at dksX6_begins_0 12 rfl rfl)
theorem dX6_begins_13 : decode cX6_begins 13 = .ok (.putfield 40, 3) := dk_181 0 40 (dk_at dksX6_begins_0 13 rfl rfl)
theorem dX6_begins_16 : decode cX6_begins 16 = .ok (.aload_n 0, 1) := dk_42 (dk_at dksX6_begins_0 16 rfl rfl)
theorem dX6_begins_17 : decode cX6_begins 17 = .ok (.iconst (-1), 1) := dk_2 (dk_at dksX6_begins_0 17 rfl rfl)
theorem dX6_begins_18 : decode cX6_begins 18 = .ok (.putfield 43, 3) := dk_181 0 43 (dk_at dksX6_begins_0 18 rfl rfl)
theorem dX6_begins_21 : decode cX6_begins 21 = .ok (.iconst 0, 1) := dk_3 (dk_at dksX6_begins_0 21 rfl rfl)
theorem dX6_begins_22 : decode cX6_begins 22 = .ok (.istore_n 2, 1) := dk_61 (dk_at dksX6_begins_0 22 rfl rfl)
theorem dX6_begins_23 : decode cX6_begins 23 = .ok (.iload_n 2, 1) := dk_28 (dk_at dksX6_begins_0 23 rfl rfl)
theorem dX6_begins_24 : decode cX6_begins 24 = .ok (.aload_n 0, 1) := dk_42 (dk_at dksX6_begins_1 0 rfl rfl)
theorem dX6_begins_25 : decode cX6_begins 25 = .ok (.getfield 36, 3) := dk_180 0 36 (dk_at dksX6_begins_1 1 rfl rfl)
theorem dX6_begins_28 : decode cX6_begins 28 = .ok (.if_icmp .ge 50, 3) := dk_162 0 50 (dk_at dksX6_begins_1 4 rfl rfl)
theorem dX6_begins_31 : decode cX6_begins 31 = .ok (.aload_n 0, 1) := dk_42 (dk_at dksX6_begins_1 7 rfl rfl)
theorem dX6_begins_32 : decode cX6_begins 32 = .ok (.getfield 9, 3) := dk_180 0 9 (dk_at dksX6_begins_1 8 rfl rfl)
theorem dX6_begins_35 : decode cX6_begins 35 = .ok (.iload_n 2, 1) := dk_28 (dk_at dksX6_begins_1 11 rfl rfl)
theorem dX6_begins_36 : decode cX6_begins 36 = .ok (.iload_n 2, 1) := dk_28 (dk_at dksX6_begins_1 12 rfl rfl)
theorem dX6_begins_37 : decode cX6_begins 37 = .ok (.iastore, 1) := dk_79 (dk_at dksX6_begins_1 13 rfl rfl)
theorem dX6_begins_38 : decode cX6_begins 38 = .ok (.aload_n 0, 1) := dk_42 (dk_at dksX6_begins_1 14 rfl rfl)
theorem dX6_begins_39 : decode cX6_begins 39 = .ok (.getfield 15, 3) := dk_180 0 15 (dk_at dksX6_begins_1 15 rfl rfl)
theorem dX6_begins_42 : decode cX6_begins 42 = .ok (.iload_n 2, 1) := dk_28 (dk_at dksX6_begins_1 18 rfl rfl)
theorem dX6_begins_43 : decode cX6_begins 43 = .ok (.iconst 0, 1) := dk_3 (dk_at dksX6_begins_1 19 rfl rfl)
theorem dX6_begins_44 : decode cX6_begins 44 = .ok (.iastore, 1) := dk_79 (dk_at dksX6_begins_1 20 rfl rfl)
theorem dX6_begins_45 : decode cX6_begins 45 = .ok (.aload_n 0, 1) := dk_42 (dk_at dksX6_begins_1 21 rfl rfl)
theorem dX6_begins_46 : decode cX6_begins 46 = .ok (.getfield 18, 3) := dk_180 0 18 (dk_at dksX6_begins_2 0 rfl rfl)
theorem dX6_begins_49 : decode cX6_begins 49 = .ok (.iload_n 2, 1) := dk_28 (dk_at dksX6_begins_2 3 rfl rfl)
theorem dX6_begins_50 : decode cX6_begins 50 = .ok (.iconst 0, 1) := dk_3 (dk_at dksX6_begins_2 4 rfl rfl)
theorem dX6_begins_51 : decode cX6_begins 51 = .ok (.iastore, 1) := dk_79 (dk_at dksX6_begins_2 5 rfl rfl)
theorem dX6_begins_52 : decode cX6_begins 52 = .ok (.aload_n 0, 1) := dk_42 (dk_at dksX6_begins_2 6 rfl rfl)
theorem dX6_begins_53 : decode cX6_begins 53 = .ok (.getfield 21, 3) := dk_180 0 21 (dk_at dksX6_begins_2 7 rfl rfl)
theorem dX6_begins_56 : decode cX6_begins 56 = .ok (.iload_n 2, 1) := dk_28 (dk_at dksX6_begins_2 10 rfl rfl)
theorem dX6_begins_57 : decode cX6_begins 57 = .ok (.aload_n 1, 1) := dk_43 (dk_at dksX6_begins_2 11 rfl rfl)
theorem dX6_begins_58 : decode cX6_begins 58 = .ok (.getfield 24, 3) := dk_180 0 24 (dk_at dksX6_begins_2 12 rfl rfl)
theorem dX6_begins_61 : decode cX6_begins 61 = .ok (.iload_n 2, 1) := dk_28 (dk_at dksX6_begins_2 15 rfl rfl)
theorem dX6_begins_62 : decode cX6_begins 62 = .ok (.invokevirtual 46, 3) := dk_182 0 46 (dk_at dksX6_begins_2 16 rfl rfl)
theorem dX6_begins_65 : decode cX6_begins 65 = .ok (.checkcast 50, 3) := dk_192 0 50 (dk_at dksX6_begins_2 19 rfl rfl)
theorem dX6_begins_68 : decode cX6_begins 68 = .ok (.getfield 52, 3) := dk_180 0 52 (dk_at dksX6_begins_3 0 rfl rfl)
theorem dX6_begins_71 : decode cX6_begins 71 = .ok (.iastore, 1) := dk_79 (dk_at dksX6_begins_3 3 rfl rfl)
theorem dX6_begins_72 : decode cX6_begins 72 = .ok (.iinc 2 1, 3) := dk_132 2 1 (dk_at dksX6_begins_3 4 rfl rfl)
theorem dX6_begins_75 : decode cX6_begins 75 = .ok (.goto (-52), 3) := dk_167 255 204 (dk_at dksX6_begins_3 7 rfl rfl)
theorem dX6_begins_78 : decode cX6_begins 78 = .ok (.return_, 1) := dk_177 (dk_at dksX6_begins_3 10 rfl rfl)
abbrev cX6_levelOf : ByteArray := prog_14_method_4_code
def yX6_levelOf : MethodName := ⟨RX6, "levelOf", "(I)I"⟩
def dkwX6_levelOf_1 : List UInt8 := [132, 2, 1, 167, 255, 233, 2, 172]
abbrev dktX6_levelOf_1 : List UInt8 := dkwX6_levelOf_1 ++ []
def dkwX6_levelOf_0 : List UInt8 := [3, 61, 28, 42, 180, 0, 36, 162, 0, 21, 42, 180, 0, 9, 28, 46, 27, 160, 0, 5, 28, 172]
abbrev dktX6_levelOf_0 : List UInt8 := dkwX6_levelOf_0 ++ dktX6_levelOf_1
theorem dksX6_levelOf_0 : cX6_levelOf.data.toList.drop 0 = dktX6_levelOf_0 := by decide +kernel
theorem dksX6_levelOf_1 : cX6_levelOf.data.toList.drop 22 = dktX6_levelOf_1 := dk_seg dksX6_levelOf_0 22 rfl rfl
theorem dX6_levelOf_0 : decode cX6_levelOf 0 = .ok (.iconst 0, 1) := dk_3 (dk_at dksX6_levelOf_0 0 rfl rfl)
theorem dX6_levelOf_1 : decode cX6_levelOf 1 = .ok (.istore_n 2, 1) := dk_61 (dk_at dksX6_levelOf_0 1 rfl rfl)
theorem dX6_levelOf_2 : decode cX6_levelOf 2 = .ok (.iload_n 2, 1) := dk_28 (dk_at dksX6_levelOf_0 2 rfl rfl)
theorem dX6_levelOf_3 : decode cX6_levelOf 3 = .ok (.aload_n 0, 1) := dk_42 (dk_at dksX6_levelOf_0 3 rfl rfl)
theorem dX6_levelOf_4 : decode cX6_levelOf 4 = .ok (.getfield 36, 3) := dk_180 0 36 (dk_at dksX6_levelOf_0 4 rfl rfl)
theorem dX6_levelOf_7 : decode cX6_levelOf 7 = .ok (.if_icmp .ge 21, 3) := dk_162 0 21 (dk_at dksX6_levelOf_0 7 rfl rfl)
theorem dX6_levelOf_10 : decode cX6_levelOf 10 = .ok (.aload_n 0, 1) := dk_42 (dk_at dksX6_levelOf_0 10 rfl rfl)
theorem dX6_levelOf_11 : decode cX6_levelOf 11 = .ok (.getfield 9, 3) := dk_180 0 9 (dk_at dksX6_levelOf_0 11 rfl rfl)
theorem dX6_levelOf_14 : decode cX6_levelOf 14 = .ok (.iload_n 2, 1) := dk_28 (dk_at dksX6_levelOf_0 14 rfl rfl)
theorem dX6_levelOf_15 : decode cX6_levelOf 15 = .ok (.iaload, 1) := dk_46 (dk_at dksX6_levelOf_0 15 rfl rfl)
theorem dX6_levelOf_16 : decode cX6_levelOf 16 = .ok (.iload_n 1, 1) := dk_27 (dk_at dksX6_levelOf_0 16 rfl rfl)
theorem dX6_levelOf_17 : decode cX6_levelOf 17 = .ok (.if_icmp .ne 5, 3) := dk_160 0 5 (dk_at dksX6_levelOf_0 17 rfl rfl)
theorem dX6_levelOf_20 : decode cX6_levelOf 20 = .ok (.iload_n 2, 1) := dk_28 (dk_at dksX6_levelOf_0 20 rfl rfl)
theorem dX6_levelOf_21 : decode cX6_levelOf 21 = .ok (.ireturn, 1) := dk_172 (dk_at dksX6_levelOf_0 21 rfl rfl)
theorem dX6_levelOf_22 : decode cX6_levelOf 22 = .ok (.iinc 2 1, 3) := dk_132 2 1 (dk_at dksX6_levelOf_1 0 rfl rfl)
theorem dX6_levelOf_25 : decode cX6_levelOf 25 = .ok (.goto (-23), 3) := dk_167 255 233 (dk_at dksX6_levelOf_1 3 rfl rfl)
theorem dX6_levelOf_28 : decode cX6_levelOf 28 = .ok (.iconst (-1), 1) := dk_2 (dk_at dksX6_levelOf_1 6 rfl rfl)
theorem dX6_levelOf_29 : decode cX6_levelOf 29 = .ok (.ireturn, 1) := dk_172 (dk_at dksX6_levelOf_1 7 rfl rfl)
abbrev cX6_like : ByteArray := prog_14_method_3_code
def yX6_like : MethodName := ⟨RX6, "like", "(LTableTower$State;)V"⟩
def dkwX6_like_3 : List UInt8 := [180, 0, 40, 181, 0, 40, 42, 43, 180, 0, 43, 181, 0, 43, 177]
abbrev dktX6_like_3 : List UInt8 := dkwX6_like_3 ++ []
def dkwX6_like_2 : List UInt8 := [180, 0, 21, 3, 42, 180, 0, 21, 3, 16, 10, 184, 0, 54, 42, 43, 180, 0, 36, 181, 0, 36, 42, 43]
abbrev dktX6_like_2 : List UInt8 := dkwX6_like_2 ++ dktX6_like_3
def dkwX6_like_1 : List UInt8 := [3, 16, 10, 184, 0, 54, 43, 180, 0, 18, 3, 42, 180, 0, 18, 3, 16, 10, 184, 0, 54, 43]
abbrev dktX6_like_1 : List UInt8 := dkwX6_like_1 ++ dktX6_like_2
def dkwX6_like_0 : List UInt8 := [43, 180, 0, 9, 3, 42, 180, 0, 9, 3, 16, 10, 184, 0, 54, 43, 180, 0, 15, 3, 42, 180, 0, 15]
abbrev dktX6_like_0 : List UInt8 := dkwX6_like_0 ++ dktX6_like_1
theorem dksX6_like_0 : cX6_like.data.toList.drop 0 = dktX6_like_0 := by decide +kernel
theorem dksX6_like_1 : cX6_like.data.toList.drop 24 = dktX6_like_1 := dk_seg dksX6_like_0 24 rfl rfl
theorem dksX6_like_2 : cX6_like.data.toList.drop 46 = dktX6_like_2 := dk_seg dksX6_like_1 22 rfl rfl
theorem dksX6_like_3 : cX6_like.data.toList.drop 70 = dktX6_like_3 := dk_seg dksX6_like_2 24 rfl rfl
theorem dX6_like_0 : decode cX6_like 0 = .ok (.aload_n 1, 1) := dk_43 (dk_at dksX6_like_0 0 rfl rfl)
theorem dX6_like_1 : decode cX6_like 1 = .ok (.getfield 9, 3) := dk_180 0 9 (dk_at dksX6_like_0 1 rfl rfl)
theorem dX6_like_4 : decode cX6_like 4 = .ok (.iconst 0, 1) := dk_3 (dk_at dksX6_like_0 4 rfl rfl)
theorem dX6_like_5 : decode cX6_like 5 = .ok (.aload_n 0, 1) := dk_42 (dk_at dksX6_like_0 5 rfl rfl)
theorem dX6_like_6 : decode cX6_like 6 = .ok (.getfield 9, 3) := dk_180 0 9 (dk_at dksX6_like_0 6 rfl rfl)
theorem dX6_like_9 : decode cX6_like 9 = .ok (.iconst 0, 1) := dk_3 (dk_at dksX6_like_0 9 rfl rfl)
theorem dX6_like_10 : decode cX6_like 10 = .ok (.bipush 10, 2) := dk_16 10 (dk_at dksX6_like_0 10 rfl rfl)
theorem dX6_like_12 : decode cX6_like 12 = .ok (.invokestatic 54, 3) := dk_184 0 54 (dk_at dksX6_like_0 12 rfl rfl)
theorem dX6_like_15 : decode cX6_like 15 = .ok (.aload_n 1, 1) := dk_43 (dk_at dksX6_like_0 15 rfl rfl)
theorem dX6_like_16 : decode cX6_like 16 = .ok (.getfield 15, 3) := dk_180 0 15 (dk_at dksX6_like_0 16 rfl rfl)
theorem dX6_like_19 : decode cX6_like 19 = .ok (.iconst 0, 1) := dk_3 (dk_at dksX6_like_0 19 rfl rfl)
theorem dX6_like_20 : decode cX6_like 20 = .ok (.aload_n 0, 1) := dk_42 (dk_at dksX6_like_0 20 rfl rfl)
theorem dX6_like_21 : decode cX6_like 21 = .ok (.getfield 15, 3) := dk_180 0 15 (dk_at dksX6_like_0 21 rfl rfl)
theorem dX6_like_24 : decode cX6_like 24 = .ok (.iconst 0, 1) := dk_3 (dk_at dksX6_like_1 0 rfl rfl)
theorem dX6_like_25 : decode cX6_like 25 = .ok (.bipush 10, 2) := dk_16 10 (dk_at dksX6_like_1 1 rfl rfl)
theorem dX6_like_27 : decode cX6_like 27 = .ok (.invokestatic 54, 3) := dk_184 0 54 (dk_at dksX6_like_1 3 rfl rfl)
theorem dX6_like_30 : decode cX6_like 30 = .ok (.aload_n 1, 1) := dk_43 (dk_at dksX6_like_1 6 rfl rfl)
theorem dX6_like_31 : decode cX6_like 31 = .ok (.getfield 18, 3) := dk_180 0 18 (dk_at dksX6_like_1 7 rfl rfl)
theorem dX6_like_34 : decode cX6_like 34 = .ok (.iconst 0, 1) := dk_3 (dk_at dksX6_like_1 10 rfl rfl)
theorem dX6_like_35 : decode cX6_like 35 = .ok (.aload_n 0, 1) := dk_42 (dk_at dksX6_like_1 11 rfl rfl)
theorem dX6_like_36 : decode cX6_like 36 = .ok (.getfield 18, 3) := dk_180 0 18 (dk_at dksX6_like_1 12 rfl rfl)
theorem dX6_like_39 : decode cX6_like 39 = .ok (.iconst 0, 1) := dk_3 (dk_at dksX6_like_1 15 rfl rfl)
theorem dX6_like_40 : decode cX6_like 40 = .ok (.bipush 10, 2) := dk_16 10 (dk_at dksX6_like_1 16 rfl rfl)
theorem dX6_like_42 : decode cX6_like 42 = .ok (.invokestatic 54, 3) := dk_184 0 54 (dk_at dksX6_like_1 18 rfl rfl)
theorem dX6_like_45 : decode cX6_like 45 = .ok (.aload_n 1, 1) := dk_43 (dk_at dksX6_like_1 21 rfl rfl)
theorem dX6_like_46 : decode cX6_like 46 = .ok (.getfield 21, 3) := dk_180 0 21 (dk_at dksX6_like_2 0 rfl rfl)
theorem dX6_like_49 : decode cX6_like 49 = .ok (.iconst 0, 1) := dk_3 (dk_at dksX6_like_2 3 rfl rfl)
theorem dX6_like_50 : decode cX6_like 50 = .ok (.aload_n 0, 1) := dk_42 (dk_at dksX6_like_2 4 rfl rfl)
theorem dX6_like_51 : decode cX6_like 51 = .ok (.getfield 21, 3) := dk_180 0 21 (dk_at dksX6_like_2 5 rfl rfl)
theorem dX6_like_54 : decode cX6_like 54 = .ok (.iconst 0, 1) := dk_3 (dk_at dksX6_like_2 8 rfl rfl)
theorem dX6_like_55 : decode cX6_like 55 = .ok (.bipush 10, 2) := dk_16 10 (dk_at dksX6_like_2 9 rfl rfl)
theorem dX6_like_57 : decode cX6_like 57 = .ok (.invokestatic 54, 3) := dk_184 0 54 (dk_at dksX6_like_2 11 rfl rfl)
theorem dX6_like_60 : decode cX6_like 60 = .ok (.aload_n 0, 1) := dk_42 (dk_at dksX6_like_2 14 rfl rfl)
theorem dX6_like_61 : decode cX6_like 61 = .ok (.aload_n 1, 1) := dk_43 (dk_at dksX6_like_2 15 rfl rfl)
theorem dX6_like_62 : decode cX6_like 62 = .ok (.getfield 36, 3) := dk_180 0 36 (dk_at dksX6_like_2 16 rfl rfl)
theorem dX6_like_65 : decode cX6_like 65 = .ok (.putfield 36, 3) := dk_181 0 36 (dk_at dksX6_like_2 19 rfl rfl)
theorem dX6_like_68 : decode cX6_like 68 = .ok (.aload_n 0, 1) := dk_42 (dk_at dksX6_like_2 22 rfl rfl)
theorem dX6_like_69 : decode cX6_like 69 = .ok (.aload_n 1, 1) := dk_43 (dk_at dksX6_like_2 23 rfl rfl)
theorem dX6_like_70 : decode cX6_like 70 = .ok (.getfield 40, 3) := dk_180 0 40 (dk_at dksX6_like_3 0 rfl rfl)
theorem dX6_like_73 : decode cX6_like 73 = .ok (.putfield 40, 3) := dk_181 0 40 (dk_at dksX6_like_3 3 rfl rfl)
theorem dX6_like_76 : decode cX6_like 76 = .ok (.aload_n 0, 1) := dk_42 (dk_at dksX6_like_3 6 rfl rfl)
theorem dX6_like_77 : decode cX6_like 77 = .ok (.aload_n 1, 1) := dk_43 (dk_at dksX6_like_3 7 rfl rfl)
theorem dX6_like_78 : decode cX6_like 78 = .ok (.getfield 43, 3) := dk_180 0 43 (dk_at dksX6_like_3 8 rfl rfl)
theorem dX6_like_81 : decode cX6_like 81 = .ok (.putfield 43, 3) := dk_181 0 43 (dk_at dksX6_like_3 11 rfl rfl)
theorem dX6_like_84 : decode cX6_like 84 = .ok (.return_, 1) := dk_177 (dk_at dksX6_like_3 14 rfl rfl)
abbrev cX6_sups : ByteArray := prog_14_method_14_code
def yX6_sups : MethodName := ⟨RX6, "sups", "(LTableTower$Town;I)I"⟩
def dkwX6_sups_2 : List UInt8 := [21, 4, 46, 21, 5, 79, 29, 21, 5, 100, 62, 132, 4, 1, 167, 255, 200, 29, 172]
abbrev dktX6_sups_2 : List UInt8 := dkwX6_sups_2 ++ []
def dkwX6_sups_1 : List UInt8 := [29, 42, 180, 0, 36, 4, 100, 21, 4, 100, 182, 0, 100, 54, 5, 42, 180, 0, 15, 42, 180, 0, 9]
abbrev dktX6_sups_1 : List UInt8 := dkwX6_sups_1 ++ dktX6_sups_2
def dkwX6_sups_0 : List UInt8 := [28, 62, 3, 54, 4, 21, 4, 42, 180, 0, 36, 162, 0, 53, 43, 42, 180, 0, 9, 21, 4, 46, 21, 4]
abbrev dktX6_sups_0 : List UInt8 := dkwX6_sups_0 ++ dktX6_sups_1
theorem dksX6_sups_0 : cX6_sups.data.toList.drop 0 = dktX6_sups_0 := by decide +kernel
theorem dksX6_sups_1 : cX6_sups.data.toList.drop 24 = dktX6_sups_1 := dk_seg dksX6_sups_0 24 rfl rfl
theorem dksX6_sups_2 : cX6_sups.data.toList.drop 47 = dktX6_sups_2 := dk_seg dksX6_sups_1 23 rfl rfl
theorem dX6_sups_0 : decode cX6_sups 0 = .ok (.iload_n 2, 1) := dk_28 (dk_at dksX6_sups_0 0 rfl rfl)
theorem dX6_sups_1 : decode cX6_sups 1 = .ok (.istore_n 3, 1) := dk_62 (dk_at dksX6_sups_0 1 rfl rfl)
theorem dX6_sups_2 : decode cX6_sups 2 = .ok (.iconst 0, 1) := dk_3 (dk_at dksX6_sups_0 2 rfl rfl)
theorem dX6_sups_3 : decode cX6_sups 3 = .ok (.istore 4, 2) := dk_54 4 (dk_at dksX6_sups_0 3 rfl rfl)
theorem dX6_sups_5 : decode cX6_sups 5 = .ok (.iload 4, 2) := dk_21 4 (dk_at dksX6_sups_0 5 rfl rfl)
theorem dX6_sups_7 : decode cX6_sups 7 = .ok (.aload_n 0, 1) := dk_42 (dk_at dksX6_sups_0 7 rfl rfl)
theorem dX6_sups_8 : decode cX6_sups 8 = .ok (.getfield 36, 3) := dk_180 0 36 (dk_at dksX6_sups_0 8 rfl rfl)
theorem dX6_sups_11 : decode cX6_sups 11 = .ok (.if_icmp .ge 53, 3) := dk_162 0 53 (dk_at dksX6_sups_0 11 rfl rfl)
theorem dX6_sups_14 : decode cX6_sups 14 = .ok (.aload_n 1, 1) := dk_43 (dk_at dksX6_sups_0 14 rfl rfl)
theorem dX6_sups_15 : decode cX6_sups 15 = .ok (.aload_n 0, 1) := dk_42 (dk_at dksX6_sups_0 15 rfl rfl)
theorem dX6_sups_16 : decode cX6_sups 16 = .ok (.getfield 9, 3) := dk_180 0 9 (dk_at dksX6_sups_0 16 rfl rfl)
theorem dX6_sups_19 : decode cX6_sups 19 = .ok (.iload 4, 2) := dk_21 4 (dk_at dksX6_sups_0 19 rfl rfl)
theorem dX6_sups_21 : decode cX6_sups 21 = .ok (.iaload, 1) := dk_46 (dk_at dksX6_sups_0 21 rfl rfl)
theorem dX6_sups_22 : decode cX6_sups 22 = .ok (.iload 4, 2) := dk_21 4 (dk_at dksX6_sups_0 22 rfl rfl)
theorem dX6_sups_24 : decode cX6_sups 24 = .ok (.iload_n 3, 1) := dk_29 (dk_at dksX6_sups_1 0 rfl rfl)
theorem dX6_sups_25 : decode cX6_sups 25 = .ok (.aload_n 0, 1) := dk_42 (dk_at dksX6_sups_1 1 rfl rfl)
theorem dX6_sups_26 : decode cX6_sups 26 = .ok (.getfield 36, 3) := dk_180 0 36 (dk_at dksX6_sups_1 2 rfl rfl)
theorem dX6_sups_29 : decode cX6_sups 29 = .ok (.iconst 1, 1) := dk_4 (dk_at dksX6_sups_1 5 rfl rfl)
theorem dX6_sups_30 : decode cX6_sups 30 = .ok (.isub, 1) := dk_100 (dk_at dksX6_sups_1 6 rfl rfl)
theorem dX6_sups_31 : decode cX6_sups 31 = .ok (.iload 4, 2) := dk_21 4 (dk_at dksX6_sups_1 7 rfl rfl)
theorem dX6_sups_33 : decode cX6_sups 33 = .ok (.isub, 1) := dk_100 (dk_at dksX6_sups_1 9 rfl rfl)
theorem dX6_sups_34 : decode cX6_sups 34 = .ok (.invokevirtual 100, 3) := dk_182 0 100 (dk_at dksX6_sups_1 10 rfl rfl)
theorem dX6_sups_37 : decode cX6_sups 37 = .ok (.istore 5, 2) := dk_54 5 (dk_at dksX6_sups_1 13 rfl rfl)
theorem dX6_sups_39 : decode cX6_sups 39 = .ok (.aload_n 0, 1) := dk_42 (dk_at dksX6_sups_1 15 rfl rfl)
theorem dX6_sups_40 : decode cX6_sups 40 = .ok (.getfield 15, 3) := dk_180 0 15 (dk_at dksX6_sups_1 16 rfl rfl)
theorem dX6_sups_43 : decode cX6_sups 43 = .ok (.aload_n 0, 1) := dk_42 (dk_at dksX6_sups_1 19 rfl rfl)
theorem dX6_sups_44 : decode cX6_sups 44 = .ok (.getfield 9, 3) := dk_180 0 9 (dk_at dksX6_sups_1 20 rfl rfl)
theorem dX6_sups_47 : decode cX6_sups 47 = .ok (.iload 4, 2) := dk_21 4 (dk_at dksX6_sups_2 0 rfl rfl)
theorem dX6_sups_49 : decode cX6_sups 49 = .ok (.iaload, 1) := dk_46 (dk_at dksX6_sups_2 2 rfl rfl)
theorem dX6_sups_50 : decode cX6_sups 50 = .ok (.iload 5, 2) := dk_21 5 (dk_at dksX6_sups_2 3 rfl rfl)
theorem dX6_sups_52 : decode cX6_sups 52 = .ok (.iastore, 1) := dk_79 (dk_at dksX6_sups_2 5 rfl rfl)
theorem dX6_sups_53 : decode cX6_sups 53 = .ok (.iload_n 3, 1) := dk_29 (dk_at dksX6_sups_2 6 rfl rfl)
theorem dX6_sups_54 : decode cX6_sups 54 = .ok (.iload 5, 2) := dk_21 5 (dk_at dksX6_sups_2 7 rfl rfl)
theorem dX6_sups_56 : decode cX6_sups 56 = .ok (.isub, 1) := dk_100 (dk_at dksX6_sups_2 9 rfl rfl)
theorem dX6_sups_57 : decode cX6_sups 57 = .ok (.istore_n 3, 1) := dk_62 (dk_at dksX6_sups_2 10 rfl rfl)
theorem dX6_sups_58 : decode cX6_sups 58 = .ok (.iinc 4 1, 3) := dk_132 4 1 (dk_at dksX6_sups_2 11 rfl rfl)
theorem dX6_sups_61 : decode cX6_sups 61 = .ok (.goto (-56), 3) := dk_167 255 200 (dk_at dksX6_sups_2 14 rfl rfl)
theorem dX6_sups_64 : decode cX6_sups 64 = .ok (.iload_n 3, 1) := dk_29 (dk_at dksX6_sups_2 17 rfl rfl)
theorem dX6_sups_65 : decode cX6_sups 65 = .ok (.ireturn, 1) := dk_172 (dk_at dksX6_sups_2 18 rfl rfl)
abbrev cX6_stands : ByteArray := prog_14_method_13_code
def yX6_stands : MethodName := ⟨RX6, "stands", "(LTableTower$Town;)Z"⟩
def dkwX6_stands_0 : List UInt8 := [42, 43, 182, 0, 96, 2, 160, 0, 7, 4, 167, 0, 4, 3, 172]
abbrev dktX6_stands_0 : List UInt8 := dkwX6_stands_0 ++ []
theorem dksX6_stands_0 : cX6_stands.data.toList.drop 0 = dktX6_stands_0 := by decide +kernel
theorem dX6_stands_0 : decode cX6_stands 0 = .ok (.aload_n 0, 1) := dk_42 (dk_at dksX6_stands_0 0 rfl rfl)
theorem dX6_stands_1 : decode cX6_stands 1 = .ok (.aload_n 1, 1) := dk_43 (dk_at dksX6_stands_0 1 rfl rfl)
theorem dX6_stands_2 : decode cX6_stands 2 = .ok (.invokevirtual 96, 3) := dk_182 0 96 (dk_at dksX6_stands_0 2 rfl rfl)
theorem dX6_stands_5 : decode cX6_stands 5 = .ok (.iconst (-1), 1) := dk_2 (dk_at dksX6_stands_0 5 rfl rfl)
theorem dX6_stands_6 : decode cX6_stands 6 = .ok (.if_icmp .ne 7, 3) := dk_160 0 7 (dk_at dksX6_stands_0 6 rfl rfl)
theorem dX6_stands_9 : decode cX6_stands 9 = .ok (.iconst 1, 1) := dk_4 (dk_at dksX6_stands_0 9 rfl rfl)
theorem dX6_stands_10 : decode cX6_stands 10 = .ok (.goto 4, 3) := dk_167 0 4 (dk_at dksX6_stands_0 10 rfl rfl)
theorem dX6_stands_13 : decode cX6_stands 13 = .ok (.iconst 0, 1) := dk_3 (dk_at dksX6_stands_0 13 rfl rfl)
theorem dX6_stands_14 : decode cX6_stands 14 = .ok (.ireturn, 1) := dk_172 (dk_at dksX6_stands_0 14 rfl rfl)
abbrev cX6_breaks : ByteArray := prog_14_method_12_code
def yX6_breaks : MethodName := ⟨RX6, "breaks", "(LTableTower$Town;)I"⟩
def dkwX6_breaks_1 : List UInt8 := [167, 255, 234, 2, 172]
abbrev dktX6_breaks_1 : List UInt8 := dkwX6_breaks_1 ++ []
def dkwX6_breaks_0 : List UInt8 := [3, 61, 28, 42, 180, 0, 36, 162, 0, 20, 42, 43, 28, 182, 0, 92, 154, 0, 5, 28, 172, 132, 2, 1]
abbrev dktX6_breaks_0 : List UInt8 := dkwX6_breaks_0 ++ dktX6_breaks_1
theorem dksX6_breaks_0 : cX6_breaks.data.toList.drop 0 = dktX6_breaks_0 := by decide +kernel
theorem dksX6_breaks_1 : cX6_breaks.data.toList.drop 24 = dktX6_breaks_1 := dk_seg dksX6_breaks_0 24 rfl rfl
theorem dX6_breaks_0 : decode cX6_breaks 0 = .ok (.iconst 0, 1) := dk_3 (dk_at dksX6_breaks_0 0 rfl rfl)
theorem dX6_breaks_1 : decode cX6_breaks 1 = .ok (.istore_n 2, 1) := dk_61 (dk_at dksX6_breaks_0 1 rfl rfl)
theorem dX6_breaks_2 : decode cX6_breaks 2 = .ok (.iload_n 2, 1) := dk_28 (dk_at dksX6_breaks_0 2 rfl rfl)
theorem dX6_breaks_3 : decode cX6_breaks 3 = .ok (.aload_n 0, 1) := dk_42 (dk_at dksX6_breaks_0 3 rfl rfl)
theorem dX6_breaks_4 : decode cX6_breaks 4 = .ok (.getfield 36, 3) := dk_180 0 36 (dk_at dksX6_breaks_0 4 rfl rfl)
theorem dX6_breaks_7 : decode cX6_breaks 7 = .ok (.if_icmp .ge 20, 3) := dk_162 0 20 (dk_at dksX6_breaks_0 7 rfl rfl)
theorem dX6_breaks_10 : decode cX6_breaks 10 = .ok (.aload_n 0, 1) := dk_42 (dk_at dksX6_breaks_0 10 rfl rfl)
theorem dX6_breaks_11 : decode cX6_breaks 11 = .ok (.aload_n 1, 1) := dk_43 (dk_at dksX6_breaks_0 11 rfl rfl)
theorem dX6_breaks_12 : decode cX6_breaks 12 = .ok (.iload_n 2, 1) := dk_28 (dk_at dksX6_breaks_0 12 rfl rfl)
theorem dX6_breaks_13 : decode cX6_breaks 13 = .ok (.invokevirtual 92, 3) := dk_182 0 92 (dk_at dksX6_breaks_0 13 rfl rfl)
theorem dX6_breaks_16 : decode cX6_breaks 16 = .ok (.ifCond .ne 5, 3) := dk_154 0 5 (dk_at dksX6_breaks_0 16 rfl rfl)
theorem dX6_breaks_19 : decode cX6_breaks 19 = .ok (.iload_n 2, 1) := dk_28 (dk_at dksX6_breaks_0 19 rfl rfl)
theorem dX6_breaks_20 : decode cX6_breaks 20 = .ok (.ireturn, 1) := dk_172 (dk_at dksX6_breaks_0 20 rfl rfl)
theorem dX6_breaks_21 : decode cX6_breaks 21 = .ok (.iinc 2 1, 3) := dk_132 2 1 (dk_at dksX6_breaks_0 21 rfl rfl)
theorem dX6_breaks_24 : decode cX6_breaks 24 = .ok (.goto (-22), 3) := dk_167 255 234 (dk_at dksX6_breaks_1 0 rfl rfl)
theorem dX6_breaks_27 : decode cX6_breaks 27 = .ok (.iconst (-1), 1) := dk_2 (dk_at dksX6_breaks_1 3 rfl rfl)
theorem dX6_breaks_28 : decode cX6_breaks 28 = .ok (.ireturn, 1) := dk_172 (dk_at dksX6_breaks_1 4 rfl rfl)
abbrev cX6_holds : ByteArray := prog_14_method_11_code
def yX6_holds : MethodName := ⟨RX6, "holds", "(LTableTower$Town;I)Z"⟩
def dkwX6_holds_1 : List UInt8 := [43, 180, 0, 89, 163, 0, 7, 4, 167, 0, 4, 3, 172]
abbrev dktX6_holds_1 : List UInt8 := dkwX6_holds_1 ++ []
def dkwX6_holds_0 : List UInt8 := [42, 43, 28, 182, 0, 74, 42, 43, 28, 182, 0, 77, 163, 0, 23, 42, 43, 28, 182, 0, 80, 184, 0, 83]
abbrev dktX6_holds_0 : List UInt8 := dkwX6_holds_0 ++ dktX6_holds_1
theorem dksX6_holds_0 : cX6_holds.data.toList.drop 0 = dktX6_holds_0 := by decide +kernel
theorem dksX6_holds_1 : cX6_holds.data.toList.drop 24 = dktX6_holds_1 := dk_seg dksX6_holds_0 24 rfl rfl
theorem dX6_holds_0 : decode cX6_holds 0 = .ok (.aload_n 0, 1) := dk_42 (dk_at dksX6_holds_0 0 rfl rfl)
theorem dX6_holds_1 : decode cX6_holds 1 = .ok (.aload_n 1, 1) := dk_43 (dk_at dksX6_holds_0 1 rfl rfl)
theorem dX6_holds_2 : decode cX6_holds 2 = .ok (.iload_n 2, 1) := dk_28 (dk_at dksX6_holds_0 2 rfl rfl)
theorem dX6_holds_3 : decode cX6_holds 3 = .ok (.invokevirtual 74, 3) := dk_182 0 74 (dk_at dksX6_holds_0 3 rfl rfl)
theorem dX6_holds_6 : decode cX6_holds 6 = .ok (.aload_n 0, 1) := dk_42 (dk_at dksX6_holds_0 6 rfl rfl)
theorem dX6_holds_7 : decode cX6_holds 7 = .ok (.aload_n 1, 1) := dk_43 (dk_at dksX6_holds_0 7 rfl rfl)
theorem dX6_holds_8 : decode cX6_holds 8 = .ok (.iload_n 2, 1) := dk_28 (dk_at dksX6_holds_0 8 rfl rfl)
theorem dX6_holds_9 : decode cX6_holds 9 = .ok (.invokevirtual 77, 3) := dk_182 0 77 (dk_at dksX6_holds_0 9 rfl rfl)
theorem dX6_holds_12 : decode cX6_holds 12 = .ok (.if_icmp .gt 23, 3) := dk_163 0 23 (dk_at dksX6_holds_0 12 rfl rfl)
theorem dX6_holds_15 : decode cX6_holds 15 = .ok (.aload_n 0, 1) := dk_42 (dk_at dksX6_holds_0 15 rfl rfl)
theorem dX6_holds_16 : decode cX6_holds 16 = .ok (.aload_n 1, 1) := dk_43 (dk_at dksX6_holds_0 16 rfl rfl)
theorem dX6_holds_17 : decode cX6_holds 17 = .ok (.iload_n 2, 1) := dk_28 (dk_at dksX6_holds_0 17 rfl rfl)
theorem dX6_holds_18 : decode cX6_holds 18 = .ok (.invokevirtual 80, 3) := dk_182 0 80 (dk_at dksX6_holds_0 18 rfl rfl)
theorem dX6_holds_21 : decode cX6_holds 21 = .ok (.invokestatic 83, 3) := dk_184 0 83 (dk_at dksX6_holds_0 21 rfl rfl)
theorem dX6_holds_24 : decode cX6_holds 24 = .ok (.aload_n 1, 1) := dk_43 (dk_at dksX6_holds_1 0 rfl rfl)
theorem dX6_holds_25 : decode cX6_holds 25 = .ok (.getfield 89, 3) := dk_180 0 89 (dk_at dksX6_holds_1 1 rfl rfl)
theorem dX6_holds_28 : decode cX6_holds 28 = .ok (.if_icmp .gt 7, 3) := dk_163 0 7 (dk_at dksX6_holds_1 4 rfl rfl)
theorem dX6_holds_31 : decode cX6_holds 31 = .ok (.iconst 1, 1) := dk_4 (dk_at dksX6_holds_1 7 rfl rfl)
theorem dX6_holds_32 : decode cX6_holds 32 = .ok (.goto 4, 3) := dk_167 0 4 (dk_at dksX6_holds_1 8 rfl rfl)
theorem dX6_holds_35 : decode cX6_holds 35 = .ok (.iconst 0, 1) := dk_3 (dk_at dksX6_holds_1 11 rfl rfl)
theorem dX6_holds_36 : decode cX6_holds 36 = .ok (.ireturn, 1) := dk_172 (dk_at dksX6_holds_1 12 rfl rfl)
abbrev cX6_load : ByteArray := prog_14_method_7_code
def yX6_load : MethodName := ⟨RX6, "load", "(LTableTower$Town;I)I"⟩
def dkwX6_load_2 : List UInt8 := [42, 180, 0, 15, 42, 180, 0, 9, 21, 4, 46, 46, 96, 96, 62, 132, 4, 1, 167, 255, 208, 29, 172]
abbrev dktX6_load_2 : List UInt8 := dkwX6_load_2 ++ []
def dkwX6_load_1 : List UInt8 := [162, 0, 45, 29, 43, 180, 0, 24, 42, 180, 0, 9, 21, 4, 46, 182, 0, 46, 192, 0, 50, 180, 0, 60]
abbrev dktX6_load_1 : List UInt8 := dkwX6_load_1 ++ dktX6_load_2
def dkwX6_load_0 : List UInt8 := [42, 180, 0, 15, 42, 180, 0, 9, 28, 46, 46, 62, 28, 4, 96, 54, 4, 21, 4, 42, 180, 0, 36]
abbrev dktX6_load_0 : List UInt8 := dkwX6_load_0 ++ dktX6_load_1
theorem dksX6_load_0 : cX6_load.data.toList.drop 0 = dktX6_load_0 := by decide +kernel
theorem dksX6_load_1 : cX6_load.data.toList.drop 23 = dktX6_load_1 := dk_seg dksX6_load_0 23 rfl rfl
theorem dksX6_load_2 : cX6_load.data.toList.drop 47 = dktX6_load_2 := dk_seg dksX6_load_1 24 rfl rfl
theorem dX6_load_0 : decode cX6_load 0 = .ok (.aload_n 0, 1) := dk_42 (dk_at dksX6_load_0 0 rfl rfl)
theorem dX6_load_1 : decode cX6_load 1 = .ok (.getfield 15, 3) := dk_180 0 15 (dk_at dksX6_load_0 1 rfl rfl)
theorem dX6_load_4 : decode cX6_load 4 = .ok (.aload_n 0, 1) := dk_42 (dk_at dksX6_load_0 4 rfl rfl)
theorem dX6_load_5 : decode cX6_load 5 = .ok (.getfield 9, 3) := dk_180 0 9 (dk_at dksX6_load_0 5 rfl rfl)
theorem dX6_load_8 : decode cX6_load 8 = .ok (.iload_n 2, 1) := dk_28 (dk_at dksX6_load_0 8 rfl rfl)
theorem dX6_load_9 : decode cX6_load 9 = .ok (.iaload, 1) := dk_46 (dk_at dksX6_load_0 9 rfl rfl)
theorem dX6_load_10 : decode cX6_load 10 = .ok (.iaload, 1) := dk_46 (dk_at dksX6_load_0 10 rfl rfl)
theorem dX6_load_11 : decode cX6_load 11 = .ok (.istore_n 3, 1) := dk_62 (dk_at dksX6_load_0 11 rfl rfl)
theorem dX6_load_12 : decode cX6_load 12 = .ok (.iload_n 2, 1) := dk_28 (dk_at dksX6_load_0 12 rfl rfl)
theorem dX6_load_13 : decode cX6_load 13 = .ok (.iconst 1, 1) := dk_4 (dk_at dksX6_load_0 13 rfl rfl)
theorem dX6_load_14 : decode cX6_load 14 = .ok (.iadd, 1) := dk_96 (dk_at dksX6_load_0 14 rfl rfl)
theorem dX6_load_15 : decode cX6_load 15 = .ok (.istore 4, 2) := dk_54 4 (dk_at dksX6_load_0 15 rfl rfl)
theorem dX6_load_17 : decode cX6_load 17 = .ok (.iload 4, 2) := dk_21 4 (dk_at dksX6_load_0 17 rfl rfl)
theorem dX6_load_19 : decode cX6_load 19 = .ok (.aload_n 0, 1) := dk_42 (dk_at dksX6_load_0 19 rfl rfl)
theorem dX6_load_20 : decode cX6_load 20 = .ok (.getfield 36, 3) := dk_180 0 36 (dk_at dksX6_load_0 20 rfl rfl)
theorem dX6_load_23 : decode cX6_load 23 = .ok (.if_icmp .ge 45, 3) := dk_162 0 45 (dk_at dksX6_load_1 0 rfl rfl)
theorem dX6_load_26 : decode cX6_load 26 = .ok (.iload_n 3, 1) := dk_29 (dk_at dksX6_load_1 3 rfl rfl)
theorem dX6_load_27 : decode cX6_load 27 = .ok (.aload_n 1, 1) := dk_43 (dk_at dksX6_load_1 4 rfl rfl)
theorem dX6_load_28 : decode cX6_load 28 = .ok (.getfield 24, 3) := dk_180 0 24 (dk_at dksX6_load_1 5 rfl rfl)
theorem dX6_load_31 : decode cX6_load 31 = .ok (.aload_n 0, 1) := dk_42 (dk_at dksX6_load_1 8 rfl rfl)
theorem dX6_load_32 : decode cX6_load 32 = .ok (.getfield 9, 3) := dk_180 0 9 (dk_at dksX6_load_1 9 rfl rfl)
theorem dX6_load_35 : decode cX6_load 35 = .ok (.iload 4, 2) := dk_21 4 (dk_at dksX6_load_1 12 rfl rfl)
theorem dX6_load_37 : decode cX6_load 37 = .ok (.iaload, 1) := dk_46 (dk_at dksX6_load_1 14 rfl rfl)
theorem dX6_load_38 : decode cX6_load 38 = .ok (.invokevirtual 46, 3) := dk_182 0 46 (dk_at dksX6_load_1 15 rfl rfl)
theorem dX6_load_41 : decode cX6_load 41 = .ok (.checkcast 50, 3) := dk_192 0 50 (dk_at dksX6_load_1 18 rfl rfl)
theorem dX6_load_44 : decode cX6_load 44 = .ok (.getfield 60, 3) := dk_180 0 60 (dk_at dksX6_load_1 21 rfl rfl)
theorem dX6_load_47 : decode cX6_load 47 = .ok (.aload_n 0, 1) := dk_42 (dk_at dksX6_load_2 0 rfl rfl)
theorem dX6_load_48 : decode cX6_load 48 = .ok (.getfield 15, 3) := dk_180 0 15 (dk_at dksX6_load_2 1 rfl rfl)
theorem dX6_load_51 : decode cX6_load 51 = .ok (.aload_n 0, 1) := dk_42 (dk_at dksX6_load_2 4 rfl rfl)
theorem dX6_load_52 : decode cX6_load 52 = .ok (.getfield 9, 3) := dk_180 0 9 (dk_at dksX6_load_2 5 rfl rfl)
theorem dX6_load_55 : decode cX6_load 55 = .ok (.iload 4, 2) := dk_21 4 (dk_at dksX6_load_2 8 rfl rfl)
theorem dX6_load_57 : decode cX6_load 57 = .ok (.iaload, 1) := dk_46 (dk_at dksX6_load_2 10 rfl rfl)
theorem dX6_load_58 : decode cX6_load 58 = .ok (.iaload, 1) := dk_46 (dk_at dksX6_load_2 11 rfl rfl)
theorem dX6_load_59 : decode cX6_load 59 = .ok (.iadd, 1) := dk_96 (dk_at dksX6_load_2 12 rfl rfl)
theorem dX6_load_60 : decode cX6_load 60 = .ok (.iadd, 1) := dk_96 (dk_at dksX6_load_2 13 rfl rfl)
theorem dX6_load_61 : decode cX6_load 61 = .ok (.istore_n 3, 1) := dk_62 (dk_at dksX6_load_2 14 rfl rfl)
theorem dX6_load_62 : decode cX6_load 62 = .ok (.iinc 4 1, 3) := dk_132 4 1 (dk_at dksX6_load_2 15 rfl rfl)
theorem dX6_load_65 : decode cX6_load 65 = .ok (.goto (-48), 3) := dk_167 255 208 (dk_at dksX6_load_2 18 rfl rfl)
theorem dX6_load_68 : decode cX6_load 68 = .ok (.iload_n 3, 1) := dk_29 (dk_at dksX6_load_2 21 rfl rfl)
theorem dX6_load_69 : decode cX6_load 69 = .ok (.ireturn, 1) := dk_172 (dk_at dksX6_load_2 22 rfl rfl)
abbrev cX6_carries : ByteArray := prog_14_method_8_code
def yX6_carries : MethodName := ⟨RX6, "carries", "(LTableTower$Town;I)I"⟩
def dkwX6_carries_1 : List UInt8 := [180, 0, 36, 4, 100, 160, 0, 7, 4, 167, 0, 4, 3, 182, 0, 63, 172]
abbrev dktX6_carries_1 : List UInt8 := dkwX6_carries_1 ++ []
def dkwX6_carries_0 : List UInt8 := [43, 180, 0, 24, 42, 180, 0, 9, 28, 46, 182, 0, 46, 192, 0, 50, 42, 180, 0, 40, 28, 42]
abbrev dktX6_carries_0 : List UInt8 := dkwX6_carries_0 ++ dktX6_carries_1
theorem dksX6_carries_0 : cX6_carries.data.toList.drop 0 = dktX6_carries_0 := by decide +kernel
theorem dksX6_carries_1 : cX6_carries.data.toList.drop 22 = dktX6_carries_1 := dk_seg dksX6_carries_0 22 rfl rfl
theorem dX6_carries_0 : decode cX6_carries 0 = .ok (.aload_n 1, 1) := dk_43 (dk_at dksX6_carries_0 0 rfl rfl)
theorem dX6_carries_1 : decode cX6_carries 1 = .ok (.getfield 24, 3) := dk_180 0 24 (dk_at dksX6_carries_0 1 rfl rfl)
theorem dX6_carries_4 : decode cX6_carries 4 = .ok (.aload_n 0, 1) := dk_42 (dk_at dksX6_carries_0 4 rfl rfl)
theorem dX6_carries_5 : decode cX6_carries 5 = .ok (.getfield 9, 3) := dk_180 0 9 (dk_at dksX6_carries_0 5 rfl rfl)
theorem dX6_carries_8 : decode cX6_carries 8 = .ok (.iload_n 2, 1) := dk_28 (dk_at dksX6_carries_0 8 rfl rfl)
theorem dX6_carries_9 : decode cX6_carries 9 = .ok (.iaload, 1) := dk_46 (dk_at dksX6_carries_0 9 rfl rfl)
theorem dX6_carries_10 : decode cX6_carries 10 = .ok (.invokevirtual 46, 3) := dk_182 0 46 (dk_at dksX6_carries_0 10 rfl rfl)
theorem dX6_carries_13 : decode cX6_carries 13 = .ok (.checkcast 50, 3) := dk_192 0 50 (dk_at dksX6_carries_0 13 rfl rfl)
theorem dX6_carries_16 : decode cX6_carries 16 = .ok (.aload_n 0, 1) := dk_42 (dk_at dksX6_carries_0 16 rfl rfl)
theorem dX6_carries_17 : decode cX6_carries 17 = .ok (.getfield 40, 3) := dk_180 0 40 (dk_at dksX6_carries_0 17 rfl rfl)
theorem dX6_carries_20 : decode cX6_carries 20 = .ok (.iload_n 2, 1) := dk_28 (dk_at dksX6_carries_0 20 rfl rfl)
theorem dX6_carries_21 : decode cX6_carries 21 = .ok (.aload_n 0, 1) := dk_42 (dk_at dksX6_carries_0 21 rfl rfl)
theorem dX6_carries_22 : decode cX6_carries 22 = .ok (.getfield 36, 3) := dk_180 0 36 (dk_at dksX6_carries_1 0 rfl rfl)
theorem dX6_carries_25 : decode cX6_carries 25 = .ok (.iconst 1, 1) := dk_4 (dk_at dksX6_carries_1 3 rfl rfl)
theorem dX6_carries_26 : decode cX6_carries 26 = .ok (.isub, 1) := dk_100 (dk_at dksX6_carries_1 4 rfl rfl)
theorem dX6_carries_27 : decode cX6_carries 27 = .ok (.if_icmp .ne 7, 3) := dk_160 0 7 (dk_at dksX6_carries_1 5 rfl rfl)
theorem dX6_carries_30 : decode cX6_carries 30 = .ok (.iconst 1, 1) := dk_4 (dk_at dksX6_carries_1 8 rfl rfl)
theorem dX6_carries_31 : decode cX6_carries 31 = .ok (.goto 4, 3) := dk_167 0 4 (dk_at dksX6_carries_1 9 rfl rfl)
theorem dX6_carries_34 : decode cX6_carries 34 = .ok (.iconst 0, 1) := dk_3 (dk_at dksX6_carries_1 12 rfl rfl)
theorem dX6_carries_35 : decode cX6_carries 35 = .ok (.invokevirtual 63, 3) := dk_182 0 63 (dk_at dksX6_carries_1 13 rfl rfl)
theorem dX6_carries_38 : decode cX6_carries 38 = .ok (.ireturn, 1) := dk_172 (dk_at dksX6_carries_1 16 rfl rfl)
abbrev cX6_tilt : ByteArray := prog_14_method_10_code
def yX6_tilt : MethodName := ⟨RX6, "tilt", "(LTableTower$Town;I)I"⟩
def dkwX6_tilt_1 : List UInt8 := [96, 62, 132, 4, 1, 167, 255, 232, 29, 172]
abbrev dktX6_tilt_1 : List UInt8 := dkwX6_tilt_1 ++ []
def dkwX6_tilt_0 : List UInt8 := [3, 62, 3, 54, 4, 21, 4, 28, 163, 0, 24, 29, 42, 43, 42, 180, 0, 9, 21, 4, 46, 182, 0, 70]
abbrev dktX6_tilt_0 : List UInt8 := dkwX6_tilt_0 ++ dktX6_tilt_1
theorem dksX6_tilt_0 : cX6_tilt.data.toList.drop 0 = dktX6_tilt_0 := by decide +kernel
theorem dksX6_tilt_1 : cX6_tilt.data.toList.drop 24 = dktX6_tilt_1 := dk_seg dksX6_tilt_0 24 rfl rfl
theorem dX6_tilt_0 : decode cX6_tilt 0 = .ok (.iconst 0, 1) := dk_3 (dk_at dksX6_tilt_0 0 rfl rfl)
theorem dX6_tilt_1 : decode cX6_tilt 1 = .ok (.istore_n 3, 1) := dk_62 (dk_at dksX6_tilt_0 1 rfl rfl)
theorem dX6_tilt_2 : decode cX6_tilt 2 = .ok (.iconst 0, 1) := dk_3 (dk_at dksX6_tilt_0 2 rfl rfl)
theorem dX6_tilt_3 : decode cX6_tilt 3 = .ok (.istore 4, 2) := dk_54 4 (dk_at dksX6_tilt_0 3 rfl rfl)
theorem dX6_tilt_5 : decode cX6_tilt 5 = .ok (.iload 4, 2) := dk_21 4 (dk_at dksX6_tilt_0 5 rfl rfl)
theorem dX6_tilt_7 : decode cX6_tilt 7 = .ok (.iload_n 2, 1) := dk_28 (dk_at dksX6_tilt_0 7 rfl rfl)
theorem dX6_tilt_8 : decode cX6_tilt 8 = .ok (.if_icmp .gt 24, 3) := dk_163 0 24 (dk_at dksX6_tilt_0 8 rfl rfl)
theorem dX6_tilt_11 : decode cX6_tilt 11 = .ok (.iload_n 3, 1) := dk_29 (dk_at dksX6_tilt_0 11 rfl rfl)
theorem dX6_tilt_12 : decode cX6_tilt 12 = .ok (.aload_n 0, 1) := dk_42 (dk_at dksX6_tilt_0 12 rfl rfl)
theorem dX6_tilt_13 : decode cX6_tilt 13 = .ok (.aload_n 1, 1) := dk_43 (dk_at dksX6_tilt_0 13 rfl rfl)
theorem dX6_tilt_14 : decode cX6_tilt 14 = .ok (.aload_n 0, 1) := dk_42 (dk_at dksX6_tilt_0 14 rfl rfl)
theorem dX6_tilt_15 : decode cX6_tilt 15 = .ok (.getfield 9, 3) := dk_180 0 9 (dk_at dksX6_tilt_0 15 rfl rfl)
theorem dX6_tilt_18 : decode cX6_tilt 18 = .ok (.iload 4, 2) := dk_21 4 (dk_at dksX6_tilt_0 18 rfl rfl)
theorem dX6_tilt_20 : decode cX6_tilt 20 = .ok (.iaload, 1) := dk_46 (dk_at dksX6_tilt_0 20 rfl rfl)
theorem dX6_tilt_21 : decode cX6_tilt 21 = .ok (.invokevirtual 70, 3) := dk_182 0 70 (dk_at dksX6_tilt_0 21 rfl rfl)
theorem dX6_tilt_24 : decode cX6_tilt 24 = .ok (.iadd, 1) := dk_96 (dk_at dksX6_tilt_1 0 rfl rfl)
theorem dX6_tilt_25 : decode cX6_tilt 25 = .ok (.istore_n 3, 1) := dk_62 (dk_at dksX6_tilt_1 1 rfl rfl)
theorem dX6_tilt_26 : decode cX6_tilt 26 = .ok (.iinc 4 1, 3) := dk_132 4 1 (dk_at dksX6_tilt_1 2 rfl rfl)
theorem dX6_tilt_29 : decode cX6_tilt 29 = .ok (.goto (-24), 3) := dk_167 255 232 (dk_at dksX6_tilt_1 5 rfl rfl)
theorem dX6_tilt_32 : decode cX6_tilt 32 = .ok (.iload_n 3, 1) := dk_29 (dk_at dksX6_tilt_1 8 rfl rfl)
theorem dX6_tilt_33 : decode cX6_tilt 33 = .ok (.ireturn, 1) := dk_172 (dk_at dksX6_tilt_1 9 rfl rfl)
abbrev cX6_leans : ByteArray := prog_14_method_9_code
def yX6_leans : MethodName := ⟨RX6, "leans", "(LTableTower$Town;I)I"⟩
def dkwX6_leans_1 : List UInt8 := [182, 0, 67, 104, 172]
abbrev dktX6_leans_1 : List UInt8 := dkwX6_leans_1 ++ []
def dkwX6_leans_0 : List UInt8 := [42, 180, 0, 21, 28, 46, 42, 180, 0, 18, 28, 46, 96, 43, 180, 0, 24, 28, 182, 0, 46, 192, 0, 50]
abbrev dktX6_leans_0 : List UInt8 := dkwX6_leans_0 ++ dktX6_leans_1
theorem dksX6_leans_0 : cX6_leans.data.toList.drop 0 = dktX6_leans_0 := by decide +kernel
theorem dksX6_leans_1 : cX6_leans.data.toList.drop 24 = dktX6_leans_1 := dk_seg dksX6_leans_0 24 rfl rfl
theorem dX6_leans_0 : decode cX6_leans 0 = .ok (.aload_n 0, 1) := dk_42 (dk_at dksX6_leans_0 0 rfl rfl)
theorem dX6_leans_1 : decode cX6_leans 1 = .ok (.getfield 21, 3) := dk_180 0 21 (dk_at dksX6_leans_0 1 rfl rfl)
theorem dX6_leans_4 : decode cX6_leans 4 = .ok (.iload_n 2, 1) := dk_28 (dk_at dksX6_leans_0 4 rfl rfl)
theorem dX6_leans_5 : decode cX6_leans 5 = .ok (.iaload, 1) := dk_46 (dk_at dksX6_leans_0 5 rfl rfl)
theorem dX6_leans_6 : decode cX6_leans 6 = .ok (.aload_n 0, 1) := dk_42 (dk_at dksX6_leans_0 6 rfl rfl)
theorem dX6_leans_7 : decode cX6_leans 7 = .ok (.getfield 18, 3) := dk_180 0 18 (dk_at dksX6_leans_0 7 rfl rfl)
theorem dX6_leans_10 : decode cX6_leans 10 = .ok (.iload_n 2, 1) := dk_28 (dk_at dksX6_leans_0 10 rfl rfl)
theorem dX6_leans_11 : decode cX6_leans 11 = .ok (.iaload, 1) := dk_46 (dk_at dksX6_leans_0 11 rfl rfl)
theorem dX6_leans_12 : decode cX6_leans 12 = .ok (.iadd, 1) := dk_96 (dk_at dksX6_leans_0 12 rfl rfl)
theorem dX6_leans_13 : decode cX6_leans 13 = .ok (.aload_n 1, 1) := dk_43 (dk_at dksX6_leans_0 13 rfl rfl)
theorem dX6_leans_14 : decode cX6_leans 14 = .ok (.getfield 24, 3) := dk_180 0 24 (dk_at dksX6_leans_0 14 rfl rfl)
theorem dX6_leans_17 : decode cX6_leans 17 = .ok (.iload_n 2, 1) := dk_28 (dk_at dksX6_leans_0 17 rfl rfl)
theorem dX6_leans_18 : decode cX6_leans 18 = .ok (.invokevirtual 46, 3) := dk_182 0 46 (dk_at dksX6_leans_0 18 rfl rfl)
theorem dX6_leans_21 : decode cX6_leans 21 = .ok (.checkcast 50, 3) := dk_192 0 50 (dk_at dksX6_leans_0 21 rfl rfl)
theorem dX6_leans_24 : decode cX6_leans 24 = .ok (.invokevirtual 67, 3) := dk_182 0 67 (dk_at dksX6_leans_1 0 rfl rfl)
theorem dX6_leans_27 : decode cX6_leans 27 = .ok (.imul, 1) := dk_104 (dk_at dksX6_leans_1 3 rfl rfl)
theorem dX6_leans_28 : decode cX6_leans 28 = .ok (.ireturn, 1) := dk_172 (dk_at dksX6_leans_1 4 rfl rfl)
abbrev cX6_all : ByteArray := prog_14_method_16_code
def yX6_all : MethodName := ⟨RX6, "all", "()I"⟩
def dkwX6_all_1 : List UInt8 := [132, 2, 1, 167, 255, 234, 27, 172]
abbrev dktX6_all_1 : List UInt8 := dkwX6_all_1 ++ []
def dkwX6_all_0 : List UInt8 := [3, 60, 3, 61, 28, 42, 180, 0, 36, 162, 0, 20, 27, 4, 42, 180, 0, 9, 28, 46, 120, 128, 60]
abbrev dktX6_all_0 : List UInt8 := dkwX6_all_0 ++ dktX6_all_1
theorem dksX6_all_0 : cX6_all.data.toList.drop 0 = dktX6_all_0 := by decide +kernel
theorem dksX6_all_1 : cX6_all.data.toList.drop 23 = dktX6_all_1 := dk_seg dksX6_all_0 23 rfl rfl
theorem dX6_all_0 : decode cX6_all 0 = .ok (.iconst 0, 1) := dk_3 (dk_at dksX6_all_0 0 rfl rfl)
theorem dX6_all_1 : decode cX6_all 1 = .ok (.istore_n 1, 1) := dk_60 (dk_at dksX6_all_0 1 rfl rfl)
theorem dX6_all_2 : decode cX6_all 2 = .ok (.iconst 0, 1) := dk_3 (dk_at dksX6_all_0 2 rfl rfl)
theorem dX6_all_3 : decode cX6_all 3 = .ok (.istore_n 2, 1) := dk_61 (dk_at dksX6_all_0 3 rfl rfl)
theorem dX6_all_4 : decode cX6_all 4 = .ok (.iload_n 2, 1) := dk_28 (dk_at dksX6_all_0 4 rfl rfl)
theorem dX6_all_5 : decode cX6_all 5 = .ok (.aload_n 0, 1) := dk_42 (dk_at dksX6_all_0 5 rfl rfl)
theorem dX6_all_6 : decode cX6_all 6 = .ok (.getfield 36, 3) := dk_180 0 36 (dk_at dksX6_all_0 6 rfl rfl)
theorem dX6_all_9 : decode cX6_all 9 = .ok (.if_icmp .ge 20, 3) := dk_162 0 20 (dk_at dksX6_all_0 9 rfl rfl)
theorem dX6_all_12 : decode cX6_all 12 = .ok (.iload_n 1, 1) := dk_27 (dk_at dksX6_all_0 12 rfl rfl)
theorem dX6_all_13 : decode cX6_all 13 = .ok (.iconst 1, 1) := dk_4 (dk_at dksX6_all_0 13 rfl rfl)
theorem dX6_all_14 : decode cX6_all 14 = .ok (.aload_n 0, 1) := dk_42 (dk_at dksX6_all_0 14 rfl rfl)
theorem dX6_all_15 : decode cX6_all 15 = .ok (.getfield 9, 3) := dk_180 0 9 (dk_at dksX6_all_0 15 rfl rfl)
theorem dX6_all_18 : decode cX6_all 18 = .ok (.iload_n 2, 1) := dk_28 (dk_at dksX6_all_0 18 rfl rfl)
theorem dX6_all_19 : decode cX6_all 19 = .ok (.iaload, 1) := dk_46 (dk_at dksX6_all_0 19 rfl rfl)
theorem dX6_all_20 : decode cX6_all 20 = .ok (.ishl, 1) := dk_120 (dk_at dksX6_all_0 20 rfl rfl)
theorem dX6_all_21 : decode cX6_all 21 = .ok (.ior, 1) := dk_128 (dk_at dksX6_all_0 21 rfl rfl)
theorem dX6_all_22 : decode cX6_all 22 = .ok (.istore_n 1, 1) := dk_60 (dk_at dksX6_all_0 22 rfl rfl)
theorem dX6_all_23 : decode cX6_all 23 = .ok (.iinc 2 1, 3) := dk_132 2 1 (dk_at dksX6_all_1 0 rfl rfl)
theorem dX6_all_26 : decode cX6_all 26 = .ok (.goto (-22), 3) := dk_167 255 234 (dk_at dksX6_all_1 3 rfl rfl)
theorem dX6_all_29 : decode cX6_all 29 = .ok (.iload_n 1, 1) := dk_27 (dk_at dksX6_all_1 6 rfl rfl)
theorem dX6_all_30 : decode cX6_all 30 = .ok (.ireturn, 1) := dk_172 (dk_at dksX6_all_1 7 rfl rfl)
abbrev cX6_full : ByteArray := prog_14_method_15_code
def yX6_full : MethodName := ⟨RX6, "full", "(LTableTower$Town;)I"⟩
def dkwX6_full_2 : List UInt8 := [180, 0, 9, 29, 46, 120, 128, 61, 132, 3, 1, 167, 255, 201, 28, 172]
abbrev dktX6_full_2 : List UInt8 := dkwX6_full_2 ++ []
def dkwX6_full_1 : List UInt8 := [180, 0, 24, 42, 180, 0, 9, 29, 46, 182, 0, 46, 192, 0, 50, 180, 0, 104, 161, 0, 14, 28, 4, 42]
abbrev dktX6_full_1 : List UInt8 := dkwX6_full_1 ++ dktX6_full_2
def dkwX6_full_0 : List UInt8 := [3, 61, 3, 62, 29, 42, 180, 0, 36, 162, 0, 53, 42, 180, 0, 15, 42, 180, 0, 9, 29, 46, 46, 43]
abbrev dktX6_full_0 : List UInt8 := dkwX6_full_0 ++ dktX6_full_1
theorem dksX6_full_0 : cX6_full.data.toList.drop 0 = dktX6_full_0 := by decide +kernel
theorem dksX6_full_1 : cX6_full.data.toList.drop 24 = dktX6_full_1 := dk_seg dksX6_full_0 24 rfl rfl
theorem dksX6_full_2 : cX6_full.data.toList.drop 48 = dktX6_full_2 := dk_seg dksX6_full_1 24 rfl rfl
theorem dX6_full_0 : decode cX6_full 0 = .ok (.iconst 0, 1) := dk_3 (dk_at dksX6_full_0 0 rfl rfl)
theorem dX6_full_1 : decode cX6_full 1 = .ok (.istore_n 2, 1) := dk_61 (dk_at dksX6_full_0 1 rfl rfl)
theorem dX6_full_2 : decode cX6_full 2 = .ok (.iconst 0, 1) := dk_3 (dk_at dksX6_full_0 2 rfl rfl)
theorem dX6_full_3 : decode cX6_full 3 = .ok (.istore_n 3, 1) := dk_62 (dk_at dksX6_full_0 3 rfl rfl)
theorem dX6_full_4 : decode cX6_full 4 = .ok (.iload_n 3, 1) := dk_29 (dk_at dksX6_full_0 4 rfl rfl)
theorem dX6_full_5 : decode cX6_full 5 = .ok (.aload_n 0, 1) := dk_42 (dk_at dksX6_full_0 5 rfl rfl)
theorem dX6_full_6 : decode cX6_full 6 = .ok (.getfield 36, 3) := dk_180 0 36 (dk_at dksX6_full_0 6 rfl rfl)
theorem dX6_full_9 : decode cX6_full 9 = .ok (.if_icmp .ge 53, 3) := dk_162 0 53 (dk_at dksX6_full_0 9 rfl rfl)
theorem dX6_full_12 : decode cX6_full 12 = .ok (.aload_n 0, 1) := dk_42 (dk_at dksX6_full_0 12 rfl rfl)
theorem dX6_full_13 : decode cX6_full 13 = .ok (.getfield 15, 3) := dk_180 0 15 (dk_at dksX6_full_0 13 rfl rfl)
theorem dX6_full_16 : decode cX6_full 16 = .ok (.aload_n 0, 1) := dk_42 (dk_at dksX6_full_0 16 rfl rfl)
theorem dX6_full_17 : decode cX6_full 17 = .ok (.getfield 9, 3) := dk_180 0 9 (dk_at dksX6_full_0 17 rfl rfl)
theorem dX6_full_20 : decode cX6_full 20 = .ok (.iload_n 3, 1) := dk_29 (dk_at dksX6_full_0 20 rfl rfl)
theorem dX6_full_21 : decode cX6_full 21 = .ok (.iaload, 1) := dk_46 (dk_at dksX6_full_0 21 rfl rfl)
theorem dX6_full_22 : decode cX6_full 22 = .ok (.iaload, 1) := dk_46 (dk_at dksX6_full_0 22 rfl rfl)
theorem dX6_full_23 : decode cX6_full 23 = .ok (.aload_n 1, 1) := dk_43 (dk_at dksX6_full_0 23 rfl rfl)
theorem dX6_full_24 : decode cX6_full 24 = .ok (.getfield 24, 3) := dk_180 0 24 (dk_at dksX6_full_1 0 rfl rfl)
theorem dX6_full_27 : decode cX6_full 27 = .ok (.aload_n 0, 1) := dk_42 (dk_at dksX6_full_1 3 rfl rfl)
theorem dX6_full_28 : decode cX6_full 28 = .ok (.getfield 9, 3) := dk_180 0 9 (dk_at dksX6_full_1 4 rfl rfl)
theorem dX6_full_31 : decode cX6_full 31 = .ok (.iload_n 3, 1) := dk_29 (dk_at dksX6_full_1 7 rfl rfl)
theorem dX6_full_32 : decode cX6_full 32 = .ok (.iaload, 1) := dk_46 (dk_at dksX6_full_1 8 rfl rfl)
theorem dX6_full_33 : decode cX6_full 33 = .ok (.invokevirtual 46, 3) := dk_182 0 46 (dk_at dksX6_full_1 9 rfl rfl)
theorem dX6_full_36 : decode cX6_full 36 = .ok (.checkcast 50, 3) := dk_192 0 50 (dk_at dksX6_full_1 12 rfl rfl)
theorem dX6_full_39 : decode cX6_full 39 = .ok (.getfield 104, 3) := dk_180 0 104 (dk_at dksX6_full_1 15 rfl rfl)
theorem dX6_full_42 : decode cX6_full 42 = .ok (.if_icmp .lt 14, 3) := dk_161 0 14 (dk_at dksX6_full_1 18 rfl rfl)
theorem dX6_full_45 : decode cX6_full 45 = .ok (.iload_n 2, 1) := dk_28 (dk_at dksX6_full_1 21 rfl rfl)
theorem dX6_full_46 : decode cX6_full 46 = .ok (.iconst 1, 1) := dk_4 (dk_at dksX6_full_1 22 rfl rfl)
theorem dX6_full_47 : decode cX6_full 47 = .ok (.aload_n 0, 1) := dk_42 (dk_at dksX6_full_1 23 rfl rfl)
theorem dX6_full_48 : decode cX6_full 48 = .ok (.getfield 9, 3) := dk_180 0 9 (dk_at dksX6_full_2 0 rfl rfl)
theorem dX6_full_51 : decode cX6_full 51 = .ok (.iload_n 3, 1) := dk_29 (dk_at dksX6_full_2 3 rfl rfl)
theorem dX6_full_52 : decode cX6_full 52 = .ok (.iaload, 1) := dk_46 (dk_at dksX6_full_2 4 rfl rfl)
theorem dX6_full_53 : decode cX6_full 53 = .ok (.ishl, 1) := dk_120 (dk_at dksX6_full_2 5 rfl rfl)
theorem dX6_full_54 : decode cX6_full 54 = .ok (.ior, 1) := dk_128 (dk_at dksX6_full_2 6 rfl rfl)
theorem dX6_full_55 : decode cX6_full 55 = .ok (.istore_n 2, 1) := dk_61 (dk_at dksX6_full_2 7 rfl rfl)
theorem dX6_full_56 : decode cX6_full 56 = .ok (.iinc 3 1, 3) := dk_132 3 1 (dk_at dksX6_full_2 8 rfl rfl)
theorem dX6_full_59 : decode cX6_full 59 = .ok (.goto (-55), 3) := dk_167 255 201 (dk_at dksX6_full_2 11 rfl rfl)
theorem dX6_full_62 : decode cX6_full 62 = .ok (.iload_n 2, 1) := dk_28 (dk_at dksX6_full_2 14 rfl rfl)
theorem dX6_full_63 : decode cX6_full 63 = .ok (.ireturn, 1) := dk_172 (dk_at dksX6_full_2 15 rfl rfl)
abbrev cX6_takes : ByteArray := prog_14_method_6_code
def yX6_takes : MethodName := ⟨RX6, "takes", "(I)V"⟩
def dkwX6_takes_1 : List UInt8 := [180, 0, 9, 27, 4, 96, 42, 180, 0, 9, 27, 42, 180, 0, 36, 27, 100, 184, 0, 54, 177]
abbrev dktX6_takes_1 : List UInt8 := dkwX6_takes_1 ++ []
def dkwX6_takes_0 : List UInt8 := [42, 180, 0, 15, 42, 180, 0, 9, 27, 46, 3, 79, 42, 89, 180, 0, 36, 4, 100, 181, 0, 36, 42]
abbrev dktX6_takes_0 : List UInt8 := dkwX6_takes_0 ++ dktX6_takes_1
theorem dksX6_takes_0 : cX6_takes.data.toList.drop 0 = dktX6_takes_0 := by decide +kernel
theorem dksX6_takes_1 : cX6_takes.data.toList.drop 23 = dktX6_takes_1 := dk_seg dksX6_takes_0 23 rfl rfl
theorem dX6_takes_0 : decode cX6_takes 0 = .ok (.aload_n 0, 1) := dk_42 (dk_at dksX6_takes_0 0 rfl rfl)
theorem dX6_takes_1 : decode cX6_takes 1 = .ok (.getfield 15, 3) := dk_180 0 15 (dk_at dksX6_takes_0 1 rfl rfl)
theorem dX6_takes_4 : decode cX6_takes 4 = .ok (.aload_n 0, 1) := dk_42 (dk_at dksX6_takes_0 4 rfl rfl)
theorem dX6_takes_5 : decode cX6_takes 5 = .ok (.getfield 9, 3) := dk_180 0 9 (dk_at dksX6_takes_0 5 rfl rfl)
theorem dX6_takes_8 : decode cX6_takes 8 = .ok (.iload_n 1, 1) := dk_27 (dk_at dksX6_takes_0 8 rfl rfl)
theorem dX6_takes_9 : decode cX6_takes 9 = .ok (.iaload, 1) := dk_46 (dk_at dksX6_takes_0 9 rfl rfl)
theorem dX6_takes_10 : decode cX6_takes 10 = .ok (.iconst 0, 1) := dk_3 (dk_at dksX6_takes_0 10 rfl rfl)
theorem dX6_takes_11 : decode cX6_takes 11 = .ok (.iastore, 1) := dk_79 (dk_at dksX6_takes_0 11 rfl rfl)
theorem dX6_takes_12 : decode cX6_takes 12 = .ok (.aload_n 0, 1) := dk_42 (dk_at dksX6_takes_0 12 rfl rfl)
theorem dX6_takes_13 : decode cX6_takes 13 = .ok (.dup, 1) := dk_89 (dk_at dksX6_takes_0 13 rfl rfl)
theorem dX6_takes_14 : decode cX6_takes 14 = .ok (.getfield 36, 3) := dk_180 0 36 (dk_at dksX6_takes_0 14 rfl rfl)
theorem dX6_takes_17 : decode cX6_takes 17 = .ok (.iconst 1, 1) := dk_4 (dk_at dksX6_takes_0 17 rfl rfl)
theorem dX6_takes_18 : decode cX6_takes 18 = .ok (.isub, 1) := dk_100 (dk_at dksX6_takes_0 18 rfl rfl)
theorem dX6_takes_19 : decode cX6_takes 19 = .ok (.putfield 36, 3) := dk_181 0 36 (dk_at dksX6_takes_0 19 rfl rfl)
theorem dX6_takes_22 : decode cX6_takes 22 = .ok (.aload_n 0, 1) := dk_42 (dk_at dksX6_takes_0 22 rfl rfl)
theorem dX6_takes_23 : decode cX6_takes 23 = .ok (.getfield 9, 3) := dk_180 0 9 (dk_at dksX6_takes_1 0 rfl rfl)
theorem dX6_takes_26 : decode cX6_takes 26 = .ok (.iload_n 1, 1) := dk_27 (dk_at dksX6_takes_1 3 rfl rfl)
theorem dX6_takes_27 : decode cX6_takes 27 = .ok (.iconst 1, 1) := dk_4 (dk_at dksX6_takes_1 4 rfl rfl)
theorem dX6_takes_28 : decode cX6_takes 28 = .ok (.iadd, 1) := dk_96 (dk_at dksX6_takes_1 5 rfl rfl)
theorem dX6_takes_29 : decode cX6_takes 29 = .ok (.aload_n 0, 1) := dk_42 (dk_at dksX6_takes_1 6 rfl rfl)
theorem dX6_takes_30 : decode cX6_takes 30 = .ok (.getfield 9, 3) := dk_180 0 9 (dk_at dksX6_takes_1 7 rfl rfl)
theorem dX6_takes_33 : decode cX6_takes 33 = .ok (.iload_n 1, 1) := dk_27 (dk_at dksX6_takes_1 10 rfl rfl)
theorem dX6_takes_34 : decode cX6_takes 34 = .ok (.aload_n 0, 1) := dk_42 (dk_at dksX6_takes_1 11 rfl rfl)
theorem dX6_takes_35 : decode cX6_takes 35 = .ok (.getfield 36, 3) := dk_180 0 36 (dk_at dksX6_takes_1 12 rfl rfl)
theorem dX6_takes_38 : decode cX6_takes 38 = .ok (.iload_n 1, 1) := dk_27 (dk_at dksX6_takes_1 15 rfl rfl)
theorem dX6_takes_39 : decode cX6_takes 39 = .ok (.isub, 1) := dk_100 (dk_at dksX6_takes_1 16 rfl rfl)
theorem dX6_takes_40 : decode cX6_takes 40 = .ok (.invokestatic 54, 3) := dk_184 0 54 (dk_at dksX6_takes_1 17 rfl rfl)
theorem dX6_takes_43 : decode cX6_takes 43 = .ok (.return_, 1) := dk_177 (dk_at dksX6_takes_1 20 rfl rfl)
abbrev cX6_puts : ByteArray := prog_14_method_5_code
def yX6_puts : MethodName := ⟨RX6, "puts", "(II)V"⟩
def dkwX6_puts_1 : List UInt8 := [180, 0, 9, 28, 27, 79, 42, 89, 180, 0, 36, 4, 96, 181, 0, 36, 177]
abbrev dktX6_puts_1 : List UInt8 := dkwX6_puts_1 ++ []
def dkwX6_puts_0 : List UInt8 := [42, 180, 0, 9, 28, 42, 180, 0, 9, 28, 4, 96, 42, 180, 0, 36, 28, 100, 184, 0, 54, 42]
abbrev dktX6_puts_0 : List UInt8 := dkwX6_puts_0 ++ dktX6_puts_1
theorem dksX6_puts_0 : cX6_puts.data.toList.drop 0 = dktX6_puts_0 := by decide +kernel
theorem dksX6_puts_1 : cX6_puts.data.toList.drop 22 = dktX6_puts_1 := dk_seg dksX6_puts_0 22 rfl rfl
theorem dX6_puts_0 : decode cX6_puts 0 = .ok (.aload_n 0, 1) := dk_42 (dk_at dksX6_puts_0 0 rfl rfl)
theorem dX6_puts_1 : decode cX6_puts 1 = .ok (.getfield 9, 3) := dk_180 0 9 (dk_at dksX6_puts_0 1 rfl rfl)
theorem dX6_puts_4 : decode cX6_puts 4 = .ok (.iload_n 2, 1) := dk_28 (dk_at dksX6_puts_0 4 rfl rfl)
theorem dX6_puts_5 : decode cX6_puts 5 = .ok (.aload_n 0, 1) := dk_42 (dk_at dksX6_puts_0 5 rfl rfl)
theorem dX6_puts_6 : decode cX6_puts 6 = .ok (.getfield 9, 3) := dk_180 0 9 (dk_at dksX6_puts_0 6 rfl rfl)
theorem dX6_puts_9 : decode cX6_puts 9 = .ok (.iload_n 2, 1) := dk_28 (dk_at dksX6_puts_0 9 rfl rfl)
theorem dX6_puts_10 : decode cX6_puts 10 = .ok (.iconst 1, 1) := dk_4 (dk_at dksX6_puts_0 10 rfl rfl)
theorem dX6_puts_11 : decode cX6_puts 11 = .ok (.iadd, 1) := dk_96 (dk_at dksX6_puts_0 11 rfl rfl)
theorem dX6_puts_12 : decode cX6_puts 12 = .ok (.aload_n 0, 1) := dk_42 (dk_at dksX6_puts_0 12 rfl rfl)
theorem dX6_puts_13 : decode cX6_puts 13 = .ok (.getfield 36, 3) := dk_180 0 36 (dk_at dksX6_puts_0 13 rfl rfl)
theorem dX6_puts_16 : decode cX6_puts 16 = .ok (.iload_n 2, 1) := dk_28 (dk_at dksX6_puts_0 16 rfl rfl)
theorem dX6_puts_17 : decode cX6_puts 17 = .ok (.isub, 1) := dk_100 (dk_at dksX6_puts_0 17 rfl rfl)
theorem dX6_puts_18 : decode cX6_puts 18 = .ok (.invokestatic 54, 3) := dk_184 0 54 (dk_at dksX6_puts_0 18 rfl rfl)
theorem dX6_puts_21 : decode cX6_puts 21 = .ok (.aload_n 0, 1) := dk_42 (dk_at dksX6_puts_0 21 rfl rfl)
theorem dX6_puts_22 : decode cX6_puts 22 = .ok (.getfield 9, 3) := dk_180 0 9 (dk_at dksX6_puts_1 0 rfl rfl)
theorem dX6_puts_25 : decode cX6_puts 25 = .ok (.iload_n 2, 1) := dk_28 (dk_at dksX6_puts_1 3 rfl rfl)
theorem dX6_puts_26 : decode cX6_puts 26 = .ok (.iload_n 1, 1) := dk_27 (dk_at dksX6_puts_1 4 rfl rfl)
theorem dX6_puts_27 : decode cX6_puts 27 = .ok (.iastore, 1) := dk_79 (dk_at dksX6_puts_1 5 rfl rfl)
theorem dX6_puts_28 : decode cX6_puts 28 = .ok (.aload_n 0, 1) := dk_42 (dk_at dksX6_puts_1 6 rfl rfl)
theorem dX6_puts_29 : decode cX6_puts 29 = .ok (.dup, 1) := dk_89 (dk_at dksX6_puts_1 7 rfl rfl)
theorem dX6_puts_30 : decode cX6_puts 30 = .ok (.getfield 36, 3) := dk_180 0 36 (dk_at dksX6_puts_1 8 rfl rfl)
theorem dX6_puts_33 : decode cX6_puts 33 = .ok (.iconst 1, 1) := dk_4 (dk_at dksX6_puts_1 11 rfl rfl)
theorem dX6_puts_34 : decode cX6_puts 34 = .ok (.iadd, 1) := dk_96 (dk_at dksX6_puts_1 12 rfl rfl)
theorem dX6_puts_35 : decode cX6_puts 35 = .ok (.putfield 36, 3) := dk_181 0 36 (dk_at dksX6_puts_1 13 rfl rfl)
theorem dX6_puts_38 : decode cX6_puts 38 = .ok (.return_, 1) := dk_177 (dk_at dksX6_puts_1 16 rfl rfl)
theorem q132 : (Jvm.Cond.initialized "TableTower$State") ∈ lw_all := lw_g (lw_at lw_m1 26 rfl) rfl
theorem q526 : (Jvm.Cond.fieldLinkNest "TableTower$State" (89 : Nat) "TableTower$Town" "limit" "I" "TableTower") ∈ lw_tbl := lw_at lw_m2 180 rfl
theorem q533 : (Jvm.Cond.fieldLinkNest "TableTower$State" (24 : Nat) "TableTower$Town" "tables" "Ljava/util/ArrayList;" "TableTower") ∈ lw_tbl := lw_at lw_m2 187 rfl
theorem q557 : (Jvm.Cond.instantiable "TableTower$State" (7 : Nat)) ∈ lw_all := lw_g (lw_at lw_m2 211 rfl) rfl
theorem q559 : (Jvm.Cond.instanceMethod ({ cls := "TableTower$State", name := "<init>", desc := "()V" } : Jvm.MethodName)) ∈ lw_all := lw_g (lw_at lw_m2 213 rfl) rfl
theorem q560 : (Jvm.Cond.code ({ cls := "TableTower$State", name := "<init>", desc := "()V" } : Jvm.MethodName) prog_14_method_1_code (1 : Nat) (Option.none : Option Jvm.ClassFile.FieldType)) ∈ lw_all := lw_g (lw_at lw_m2 214 rfl) rfl
theorem q561 : (Jvm.Cond.methodLink "TableTower$State" (3 : Nat) ({ cls := "java/lang/Object", name := "<init>", desc := "()V" } : Jvm.MethodName)) ∈ lw_all := lw_g (lw_at lw_m2 215 rfl) rfl
theorem q562 : (Jvm.Cond.fieldLink "TableTower$State" (9 : Nat) "TableTower$State" "tower" "[I") ∈ lw_all := lw_g (lw_at lw_m2 216 rfl) rfl
theorem q564 : (Jvm.Cond.fieldLink "TableTower$State" (15 : Nat) "TableTower$State" "meal" "[I") ∈ lw_all := lw_g (lw_at lw_m2 218 rfl) rfl
theorem q566 : (Jvm.Cond.fieldLink "TableTower$State" (18 : Nat) "TableTower$State" "wedge" "[I") ∈ lw_all := lw_g (lw_at lw_m2 220 rfl) rfl
theorem q568 : (Jvm.Cond.fieldLink "TableTower$State" (21 : Nat) "TableTower$State" "lean" "[I") ∈ lw_all := lw_g (lw_at lw_m2 222 rfl) rfl
theorem q570 : (Jvm.Cond.fieldLink "TableTower$State" (36 : Nat) "TableTower$State" "levels" "I") ∈ lw_all := lw_g (lw_at lw_m2 224 rfl) rfl
theorem q572 : (Jvm.Cond.fieldLink "TableTower$State" (40 : Nat) "TableTower$State" "years" "I") ∈ lw_all := lw_g (lw_at lw_m2 226 rfl) rfl
theorem q574 : (Jvm.Cond.fieldLink "TableTower$State" (43 : Nat) "TableTower$State" "crumbs" "I") ∈ lw_all := lw_g (lw_at lw_m2 228 rfl) rfl
theorem q576 : (Jvm.Cond.laysFinal "TableTower$State" "TableTower$State" "tower" "[I") ∈ lw_all := lw_g (lw_at lw_m2 230 rfl) rfl
theorem q577 : (Jvm.Cond.soleField "TableTower$State" "tower") ∈ lw_all := lw_g (lw_at lw_m2 231 rfl) rfl
theorem q578 : (Jvm.Cond.laysFinal "TableTower$State" "TableTower$State" "meal" "[I") ∈ lw_all := lw_g (lw_at lw_m2 232 rfl) rfl
theorem q579 : (Jvm.Cond.soleField "TableTower$State" "meal") ∈ lw_all := lw_g (lw_at lw_m2 233 rfl) rfl
theorem q580 : (Jvm.Cond.laysFinal "TableTower$State" "TableTower$State" "wedge" "[I") ∈ lw_all := lw_g (lw_at lw_m2 234 rfl) rfl
theorem q581 : (Jvm.Cond.soleField "TableTower$State" "wedge") ∈ lw_all := lw_g (lw_at lw_m2 235 rfl) rfl
theorem q582 : (Jvm.Cond.laysFinal "TableTower$State" "TableTower$State" "lean" "[I") ∈ lw_all := lw_g (lw_at lw_m2 236 rfl) rfl
theorem q583 : (Jvm.Cond.soleField "TableTower$State" "lean") ∈ lw_all := lw_g (lw_at lw_m2 237 rfl) rfl
theorem q584 : (Jvm.Cond.lays "TableTower$State" "TableTower$State" "levels" "I") ∈ lw_all := lw_g (lw_at lw_m2 238 rfl) rfl
theorem q585 : (Jvm.Cond.soleField "TableTower$State" "levels") ∈ lw_all := lw_g (lw_at lw_m2 239 rfl) rfl
theorem q586 : (Jvm.Cond.lays "TableTower$State" "TableTower$State" "years" "I") ∈ lw_all := lw_g (lw_at lw_m3 0 rfl) rfl
theorem q587 : (Jvm.Cond.soleField "TableTower$State" "years") ∈ lw_all := lw_g (lw_at lw_m3 1 rfl) rfl
theorem q588 : (Jvm.Cond.lays "TableTower$State" "TableTower$State" "crumbs" "I") ∈ lw_all := lw_g (lw_at lw_m3 2 rfl) rfl
theorem q589 : (Jvm.Cond.soleField "TableTower$State" "crumbs") ∈ lw_all := lw_g (lw_at lw_m3 3 rfl) rfl
theorem q590 : (Jvm.Cond.superclass "TableTower$State" "java/lang/Object") ∈ lw_all := lw_g (lw_at lw_m3 4 rfl) rfl
theorem q630 : (Jvm.Cond.selects "TableTower$State" ({ cls := "java/lang/Object", name := "getClass", desc := "()Ljava/lang/Class;" } : Jvm.MethodName) ({ cls := "java/lang/Object", name := "getClass", desc := "()Ljava/lang/Class;" } : Jvm.MethodName)) ∈ lw_all := lw_g (lw_at lw_m3 44 rfl) rfl
theorem q680 : (Jvm.Cond.instanceMethod ({ cls := "TableTower$State", name := "begins", desc := "(LTableTower$Town;)V" } : Jvm.MethodName)) ∈ lw_all := lw_g (lw_at lw_m3 94 rfl) rfl
theorem q681 : (Jvm.Cond.selects "TableTower$State" ({ cls := "TableTower$State", name := "begins", desc := "(LTableTower$Town;)V" } : Jvm.MethodName) ({ cls := "TableTower$State", name := "begins", desc := "(LTableTower$Town;)V" } : Jvm.MethodName)) ∈ lw_all := lw_g (lw_at lw_m3 95 rfl) rfl
theorem q682 : (Jvm.Cond.code ({ cls := "TableTower$State", name := "begins", desc := "(LTableTower$Town;)V" } : Jvm.MethodName) prog_14_method_2_code (3 : Nat) (Option.none : Option Jvm.ClassFile.FieldType)) ∈ lw_all := lw_g (lw_at lw_m3 96 rfl) rfl
theorem q683 : (Jvm.Cond.methodLink "TableTower$State" (30 : Nat) ({ cls := "java/util/ArrayList", name := "size", desc := "()I" } : Jvm.MethodName)) ∈ lw_all := lw_g (lw_at lw_m3 97 rfl) rfl
theorem q687 : (Jvm.Cond.methodLink "TableTower$State" (46 : Nat) ({ cls := "java/util/ArrayList", name := "get", desc := "(I)Ljava/lang/Object;" } : Jvm.MethodName)) ∈ lw_all := lw_g (lw_at lw_m3 101 rfl) rfl
theorem q701 : (Jvm.Cond.classLink "TableTower$State" (50 : Nat) "TableTower$Pine") ∈ lw_all := lw_g (lw_at lw_m3 115 rfl) rfl
theorem q772 : (Jvm.Cond.instanceMethod ({ cls := "TableTower$State", name := "levelOf", desc := "(I)I" } : Jvm.MethodName)) ∈ lw_all := lw_g (lw_at lw_m3 186 rfl) rfl
theorem q773 : (Jvm.Cond.selects "TableTower$State" ({ cls := "TableTower$State", name := "levelOf", desc := "(I)I" } : Jvm.MethodName) ({ cls := "TableTower$State", name := "levelOf", desc := "(I)I" } : Jvm.MethodName)) ∈ lw_all := lw_g (lw_at lw_m3 187 rfl) rfl
theorem q774 : (Jvm.Cond.code ({ cls := "TableTower$State", name := "levelOf", desc := "(I)I" } : Jvm.MethodName) prog_14_method_4_code (3 : Nat) (Option.some Jvm.ClassFile.FieldType.int)) ∈ lw_all := lw_g (lw_at lw_m3 188 rfl) rfl
theorem q794 : (Jvm.Cond.instanceMethod ({ cls := "TableTower$State", name := "like", desc := "(LTableTower$State;)V" } : Jvm.MethodName)) ∈ lw_all := lw_g (lw_at lw_m3 208 rfl) rfl
theorem q795 : (Jvm.Cond.selects "TableTower$State" ({ cls := "TableTower$State", name := "like", desc := "(LTableTower$State;)V" } : Jvm.MethodName) ({ cls := "TableTower$State", name := "like", desc := "(LTableTower$State;)V" } : Jvm.MethodName)) ∈ lw_all := lw_g (lw_at lw_m3 209 rfl) rfl
theorem q796 : (Jvm.Cond.code ({ cls := "TableTower$State", name := "like", desc := "(LTableTower$State;)V" } : Jvm.MethodName) prog_14_method_3_code (2 : Nat) (Option.none : Option Jvm.ClassFile.FieldType)) ∈ lw_all := lw_g (lw_at lw_m3 210 rfl) rfl
theorem q797 : (Jvm.Cond.methodLink "TableTower$State" (54 : Nat) ({ cls := "java/lang/System", name := "arraycopy", desc := "(Ljava/lang/Object;ILjava/lang/Object;II)V" } : Jvm.MethodName)) ∈ lw_all := lw_g (lw_at lw_m3 211 rfl) rfl
theorem q799 : (Jvm.Cond.instanceMethod ({ cls := "TableTower$State", name := "sups", desc := "(LTableTower$Town;I)I" } : Jvm.MethodName)) ∈ lw_all := lw_g (lw_at lw_m3 213 rfl) rfl
theorem q800 : (Jvm.Cond.selects "TableTower$State" ({ cls := "TableTower$State", name := "sups", desc := "(LTableTower$Town;I)I" } : Jvm.MethodName) ({ cls := "TableTower$State", name := "sups", desc := "(LTableTower$Town;I)I" } : Jvm.MethodName)) ∈ lw_all := lw_g (lw_at lw_m3 214 rfl) rfl
theorem q801 : (Jvm.Cond.code ({ cls := "TableTower$State", name := "sups", desc := "(LTableTower$Town;I)I" } : Jvm.MethodName) prog_14_method_14_code (6 : Nat) (Option.some Jvm.ClassFile.FieldType.int)) ∈ lw_all := lw_g (lw_at lw_m3 215 rfl) rfl
theorem q802 : (Jvm.Cond.methodLink "TableTower$State" (100 : Nat) ({ cls := "TableTower$Town", name := "takes", desc := "(IIII)I" } : Jvm.MethodName)) ∈ lw_all := lw_g (lw_at lw_m3 216 rfl) rfl
theorem q898 : (Jvm.Cond.instanceMethod ({ cls := "TableTower$State", name := "stands", desc := "(LTableTower$Town;)Z" } : Jvm.MethodName)) ∈ lw_all := lw_g (lw_at lw_m4 72 rfl) rfl
theorem q899 : (Jvm.Cond.selects "TableTower$State" ({ cls := "TableTower$State", name := "stands", desc := "(LTableTower$Town;)Z" } : Jvm.MethodName) ({ cls := "TableTower$State", name := "stands", desc := "(LTableTower$Town;)Z" } : Jvm.MethodName)) ∈ lw_all := lw_g (lw_at lw_m4 73 rfl) rfl
theorem q900 : (Jvm.Cond.code ({ cls := "TableTower$State", name := "stands", desc := "(LTableTower$Town;)Z" } : Jvm.MethodName) prog_14_method_13_code (2 : Nat) (Option.some Jvm.ClassFile.FieldType.boolean)) ∈ lw_all := lw_g (lw_at lw_m4 74 rfl) rfl
theorem q901 : (Jvm.Cond.methodLink "TableTower$State" (96 : Nat) ({ cls := "TableTower$State", name := "breaks", desc := "(LTableTower$Town;)I" } : Jvm.MethodName)) ∈ lw_all := lw_g (lw_at lw_m4 75 rfl) rfl
theorem q902 : (Jvm.Cond.instanceMethod ({ cls := "TableTower$State", name := "breaks", desc := "(LTableTower$Town;)I" } : Jvm.MethodName)) ∈ lw_all := lw_g (lw_at lw_m4 76 rfl) rfl
theorem q903 : (Jvm.Cond.selects "TableTower$State" ({ cls := "TableTower$State", name := "breaks", desc := "(LTableTower$Town;)I" } : Jvm.MethodName) ({ cls := "TableTower$State", name := "breaks", desc := "(LTableTower$Town;)I" } : Jvm.MethodName)) ∈ lw_all := lw_g (lw_at lw_m4 77 rfl) rfl
theorem q904 : (Jvm.Cond.code ({ cls := "TableTower$State", name := "breaks", desc := "(LTableTower$Town;)I" } : Jvm.MethodName) prog_14_method_12_code (3 : Nat) (Option.some Jvm.ClassFile.FieldType.int)) ∈ lw_all := lw_g (lw_at lw_m4 78 rfl) rfl
theorem q905 : (Jvm.Cond.methodLink "TableTower$State" (92 : Nat) ({ cls := "TableTower$State", name := "holds", desc := "(LTableTower$Town;I)Z" } : Jvm.MethodName)) ∈ lw_all := lw_g (lw_at lw_m4 79 rfl) rfl
theorem q906 : (Jvm.Cond.instanceMethod ({ cls := "TableTower$State", name := "holds", desc := "(LTableTower$Town;I)Z" } : Jvm.MethodName)) ∈ lw_all := lw_g (lw_at lw_m4 80 rfl) rfl
theorem q907 : (Jvm.Cond.selects "TableTower$State" ({ cls := "TableTower$State", name := "holds", desc := "(LTableTower$Town;I)Z" } : Jvm.MethodName) ({ cls := "TableTower$State", name := "holds", desc := "(LTableTower$Town;I)Z" } : Jvm.MethodName)) ∈ lw_all := lw_g (lw_at lw_m4 81 rfl) rfl
theorem q908 : (Jvm.Cond.code ({ cls := "TableTower$State", name := "holds", desc := "(LTableTower$Town;I)Z" } : Jvm.MethodName) prog_14_method_11_code (3 : Nat) (Option.some Jvm.ClassFile.FieldType.boolean)) ∈ lw_all := lw_g (lw_at lw_m4 82 rfl) rfl
theorem q909 : (Jvm.Cond.methodLink "TableTower$State" (74 : Nat) ({ cls := "TableTower$State", name := "load", desc := "(LTableTower$Town;I)I" } : Jvm.MethodName)) ∈ lw_all := lw_g (lw_at lw_m4 83 rfl) rfl
theorem q910 : (Jvm.Cond.instanceMethod ({ cls := "TableTower$State", name := "load", desc := "(LTableTower$Town;I)I" } : Jvm.MethodName)) ∈ lw_all := lw_g (lw_at lw_m4 84 rfl) rfl
theorem q911 : (Jvm.Cond.selects "TableTower$State" ({ cls := "TableTower$State", name := "load", desc := "(LTableTower$Town;I)I" } : Jvm.MethodName) ({ cls := "TableTower$State", name := "load", desc := "(LTableTower$Town;I)I" } : Jvm.MethodName)) ∈ lw_all := lw_g (lw_at lw_m4 85 rfl) rfl
theorem q912 : (Jvm.Cond.code ({ cls := "TableTower$State", name := "load", desc := "(LTableTower$Town;I)I" } : Jvm.MethodName) prog_14_method_7_code (5 : Nat) (Option.some Jvm.ClassFile.FieldType.int)) ∈ lw_all := lw_g (lw_at lw_m4 86 rfl) rfl
theorem q913 : (Jvm.Cond.methodLink "TableTower$State" (77 : Nat) ({ cls := "TableTower$State", name := "carries", desc := "(LTableTower$Town;I)I" } : Jvm.MethodName)) ∈ lw_all := lw_g (lw_at lw_m4 87 rfl) rfl
theorem q914 : (Jvm.Cond.instanceMethod ({ cls := "TableTower$State", name := "carries", desc := "(LTableTower$Town;I)I" } : Jvm.MethodName)) ∈ lw_all := lw_g (lw_at lw_m4 88 rfl) rfl
theorem q915 : (Jvm.Cond.selects "TableTower$State" ({ cls := "TableTower$State", name := "carries", desc := "(LTableTower$Town;I)I" } : Jvm.MethodName) ({ cls := "TableTower$State", name := "carries", desc := "(LTableTower$Town;I)I" } : Jvm.MethodName)) ∈ lw_all := lw_g (lw_at lw_m4 89 rfl) rfl
theorem q916 : (Jvm.Cond.code ({ cls := "TableTower$State", name := "carries", desc := "(LTableTower$Town;I)I" } : Jvm.MethodName) prog_14_method_8_code (3 : Nat) (Option.some Jvm.ClassFile.FieldType.int)) ∈ lw_all := lw_g (lw_at lw_m4 90 rfl) rfl
theorem q917 : (Jvm.Cond.methodLink "TableTower$State" (63 : Nat) ({ cls := "TableTower$Pine", name := "carriesBy", desc := "(IZ)I" } : Jvm.MethodName)) ∈ lw_all := lw_g (lw_at lw_m4 91 rfl) rfl
theorem q955 : (Jvm.Cond.methodLink "TableTower$State" (80 : Nat) ({ cls := "TableTower$State", name := "tilt", desc := "(LTableTower$Town;I)I" } : Jvm.MethodName)) ∈ lw_all := lw_g (lw_at lw_m4 129 rfl) rfl
theorem q956 : (Jvm.Cond.instanceMethod ({ cls := "TableTower$State", name := "tilt", desc := "(LTableTower$Town;I)I" } : Jvm.MethodName)) ∈ lw_all := lw_g (lw_at lw_m4 130 rfl) rfl
theorem q957 : (Jvm.Cond.selects "TableTower$State" ({ cls := "TableTower$State", name := "tilt", desc := "(LTableTower$Town;I)I" } : Jvm.MethodName) ({ cls := "TableTower$State", name := "tilt", desc := "(LTableTower$Town;I)I" } : Jvm.MethodName)) ∈ lw_all := lw_g (lw_at lw_m4 131 rfl) rfl
theorem q958 : (Jvm.Cond.code ({ cls := "TableTower$State", name := "tilt", desc := "(LTableTower$Town;I)I" } : Jvm.MethodName) prog_14_method_10_code (5 : Nat) (Option.some Jvm.ClassFile.FieldType.int)) ∈ lw_all := lw_g (lw_at lw_m4 132 rfl) rfl
theorem q959 : (Jvm.Cond.methodLink "TableTower$State" (70 : Nat) ({ cls := "TableTower$State", name := "leans", desc := "(LTableTower$Town;I)I" } : Jvm.MethodName)) ∈ lw_all := lw_g (lw_at lw_m4 133 rfl) rfl
theorem q960 : (Jvm.Cond.instanceMethod ({ cls := "TableTower$State", name := "leans", desc := "(LTableTower$Town;I)I" } : Jvm.MethodName)) ∈ lw_all := lw_g (lw_at lw_m4 134 rfl) rfl
theorem q961 : (Jvm.Cond.selects "TableTower$State" ({ cls := "TableTower$State", name := "leans", desc := "(LTableTower$Town;I)I" } : Jvm.MethodName) ({ cls := "TableTower$State", name := "leans", desc := "(LTableTower$Town;I)I" } : Jvm.MethodName)) ∈ lw_all := lw_g (lw_at lw_m4 135 rfl) rfl
theorem q962 : (Jvm.Cond.code ({ cls := "TableTower$State", name := "leans", desc := "(LTableTower$Town;I)I" } : Jvm.MethodName) prog_14_method_9_code (3 : Nat) (Option.some Jvm.ClassFile.FieldType.int)) ∈ lw_all := lw_g (lw_at lw_m4 136 rfl) rfl
theorem q963 : (Jvm.Cond.methodLink "TableTower$State" (67 : Nat) ({ cls := "TableTower$Pine", name := "times", desc := "()I" } : Jvm.MethodName)) ∈ lw_all := lw_g (lw_at lw_m4 137 rfl) rfl
theorem q976 : (Jvm.Cond.methodLink "TableTower$State" (83 : Nat) ({ cls := "java/lang/Math", name := "abs", desc := "(I)I" } : Jvm.MethodName)) ∈ lw_all := lw_g (lw_at lw_m4 150 rfl) rfl
theorem q987 : (Jvm.Cond.instanceMethod ({ cls := "TableTower$State", name := "all", desc := "()I" } : Jvm.MethodName)) ∈ lw_all := lw_g (lw_at lw_m4 161 rfl) rfl
theorem q988 : (Jvm.Cond.selects "TableTower$State" ({ cls := "TableTower$State", name := "all", desc := "()I" } : Jvm.MethodName) ({ cls := "TableTower$State", name := "all", desc := "()I" } : Jvm.MethodName)) ∈ lw_all := lw_g (lw_at lw_m4 162 rfl) rfl
theorem q989 : (Jvm.Cond.code ({ cls := "TableTower$State", name := "all", desc := "()I" } : Jvm.MethodName) prog_14_method_16_code (3 : Nat) (Option.some Jvm.ClassFile.FieldType.int)) ∈ lw_all := lw_g (lw_at lw_m4 163 rfl) rfl
theorem q1056 : (Jvm.Cond.instanceMethod ({ cls := "TableTower$State", name := "full", desc := "(LTableTower$Town;)I" } : Jvm.MethodName)) ∈ lw_all := lw_g (lw_at lw_m4 230 rfl) rfl
theorem q1057 : (Jvm.Cond.selects "TableTower$State" ({ cls := "TableTower$State", name := "full", desc := "(LTableTower$Town;)I" } : Jvm.MethodName) ({ cls := "TableTower$State", name := "full", desc := "(LTableTower$Town;)I" } : Jvm.MethodName)) ∈ lw_all := lw_g (lw_at lw_m4 231 rfl) rfl
theorem q1058 : (Jvm.Cond.code ({ cls := "TableTower$State", name := "full", desc := "(LTableTower$Town;)I" } : Jvm.MethodName) prog_14_method_15_code (4 : Nat) (Option.some Jvm.ClassFile.FieldType.int)) ∈ lw_all := lw_g (lw_at lw_m4 232 rfl) rfl
theorem q1085 : (Jvm.Cond.instanceMethod ({ cls := "TableTower$State", name := "takes", desc := "(I)V" } : Jvm.MethodName)) ∈ lw_all := lw_g (lw_at lw_m5 19 rfl) rfl
theorem q1086 : (Jvm.Cond.selects "TableTower$State" ({ cls := "TableTower$State", name := "takes", desc := "(I)V" } : Jvm.MethodName) ({ cls := "TableTower$State", name := "takes", desc := "(I)V" } : Jvm.MethodName)) ∈ lw_all := lw_g (lw_at lw_m5 20 rfl) rfl
theorem q1087 : (Jvm.Cond.code ({ cls := "TableTower$State", name := "takes", desc := "(I)V" } : Jvm.MethodName) prog_14_method_6_code (2 : Nat) (Option.none : Option Jvm.ClassFile.FieldType)) ∈ lw_all := lw_g (lw_at lw_m5 21 rfl) rfl
theorem q1444 : (Jvm.Cond.fieldLink "TableTower$State" (60 : Nat) "TableTower$Pine" "weight" "I") ∈ lw_all := lw_g (lw_at lw_m6 138 rfl) rfl
theorem q1448 : (Jvm.Cond.fieldLink "TableTower$State" (52 : Nat) "TableTower$Pine" "lean" "I") ∈ lw_all := lw_g (lw_at lw_m6 142 rfl) rfl
theorem q1452 : (Jvm.Cond.fieldLink "TableTower$State" (104 : Nat) "TableTower$Pine" "hunger" "I") ∈ lw_all := lw_g (lw_at lw_m6 146 rfl) rfl
theorem q1561 : (Jvm.Cond.instanceMethod ({ cls := "TableTower$State", name := "puts", desc := "(II)V" } : Jvm.MethodName)) ∈ lw_all := lw_g (lw_at lw_m7 15 rfl) rfl
theorem q1562 : (Jvm.Cond.selects "TableTower$State" ({ cls := "TableTower$State", name := "puts", desc := "(II)V" } : Jvm.MethodName) ({ cls := "TableTower$State", name := "puts", desc := "(II)V" } : Jvm.MethodName)) ∈ lw_all := lw_g (lw_at lw_m7 16 rfl) rfl
theorem q1563 : (Jvm.Cond.code ({ cls := "TableTower$State", name := "puts", desc := "(II)V" } : Jvm.MethodName) prog_14_method_5_code (3 : Nat) (Option.none : Option Jvm.ClassFile.FieldType)) ∈ lw_all := lw_g (lw_at lw_m7 17 rfl) rfl
theorem q2401 : (Jvm.Cond.castable "TableTower$State" "java/lang/Object") ∈ lw_tbl := lw_at lw_m10 135 rfl
theorem in_X6 : ∀ w ∈ wsX60, w ∈ lw_all := lw_in wsX60 [576, 578, 580, 582, 584, 586, 588] (by decide +kernel) (by decide +kernel)
/-! TableTower$Reader -/
set_option maxRecDepth 100000
def RX8 : String := "TableTower$Reader"
def TX8 : u_T := fun k => match k with
  | 0 => ("TableTower$Reader", "text", "[B", true)
  | 1 => ("TableTower$Reader", "size", "I", true)
  | 2 => ("TableTower$Reader", "next", "I", false)
  | 3 => ("TableTower$Reader", "place", "I", false)
  | 4 => ("TableTower$Reader", "value", "I", false)
  | 5 => ("TableTower$Reader", "isLong", "Z", false)
  | 6 => ("TableTower$Reader", "sort", "LTableTower$Sort;", false)
  | 7 => ("TableTower$Reader", "word", "Ljava/lang/String;", false)
  | _ => ("TableTower$Reader", "has", "[Z", true)
def tyX8 : Nat → FieldType := fun k => match k with
  | 0 => .array .byte
  | 1 => .int
  | 2 => .int
  | 3 => .int
  | 4 => .int
  | 5 => .boolean
  | 6 => .object "TableTower$Sort"
  | 7 => .object "java/lang/String"
  | _ => .array .boolean
abbrev wsX80 : List Cond := u_ws RX8 TX8 9
theorem nmX8 : ∀ a, a < 9 → ∀ b, b < 9 → a ≠ b → (TX8 a).2.1 ≠ (TX8 b).2.1 := by decide +kernel
theorem tyX8_ok : ∀ k, k < 9 → parseFieldDescriptor (TX8 k).2.2.1 = some (tyX8 k) := by decide +kernel
abbrev cX8_init : ByteArray := prog_11_method_1_code
def yX8_init : MethodName := ⟨RX8, "<init>", "([BI)V"⟩
def dkwX8_init_1 : List UInt8 := [181, 0, 25, 42, 182, 0, 29, 177]
abbrev dktX8_init_1 : List UInt8 := dkwX8_init_1 ++ []
def dkwX8_init_0 : List UInt8 := [42, 183, 0, 3, 42, 18, 9, 181, 0, 11, 42, 6, 188, 4, 181, 0, 17, 42, 43, 181, 0, 21, 42, 28]
abbrev dktX8_init_0 : List UInt8 := dkwX8_init_0 ++ dktX8_init_1
theorem dksX8_init_0 : cX8_init.data.toList.drop 0 = dktX8_init_0 := by decide +kernel
theorem dksX8_init_1 : cX8_init.data.toList.drop 24 = dktX8_init_1 := dk_seg dksX8_init_0 24 rfl rfl
theorem dX8_init_0 : decode cX8_init 0 = .ok (.aload_n 0, 1) := dk_42 (dk_at dksX8_init_0 0 rfl rfl)
theorem dX8_init_1 : decode cX8_init 1 = .ok (.invokespecial 3, 3) := dk_183 0 3 (dk_at dksX8_init_0 1 rfl rfl)
theorem dX8_init_4 : decode cX8_init 4 = .ok (.aload_n 0, 1) := dk_42 (dk_at dksX8_init_0 4 rfl rfl)
theorem dX8_init_5 : decode cX8_init 5 = .ok (.ldc 9, 2) := dk_18 9 (dk_at dksX8_init_0 5 rfl rfl)
theorem dX8_init_7 : decode cX8_init 7 = .ok (.putfield 11, 3) := dk_181 0 11 (dk_at dksX8_init_0 7 rfl rfl)
theorem dX8_init_10 : decode cX8_init 10 = .ok (.aload_n 0, 1) := dk_42 (dk_at dksX8_init_0 10 rfl rfl)
theorem dX8_init_11 : decode cX8_init 11 = .ok (.iconst 3, 1) := dk_6 (dk_at dksX8_init_0 11 rfl rfl)
theorem dX8_init_12 : decode cX8_init 12 = .ok (.newarray .boolean, 2) := dk_188_4 (dk_at dksX8_init_0 12 rfl rfl)
theorem dX8_init_14 : decode cX8_init 14 = .ok (.putfield 17, 3) := dk_181 0 17 (dk_at dksX8_init_0 14 rfl rfl)
theorem dX8_init_17 : decode cX8_init 17 = .ok (.aload_n 0, 1) := dk_42 (dk_at dksX8_init_0 17 rfl rfl)
theorem dX8_init_18 : decode cX8_init 18 = .ok (.aload_n 1, 1) := dk_43 (dk_at dksX8_init_0 18 rfl rfl)
theorem dX8_init_19 : decode cX8_init 19 = .ok (.putfield 21, 3) := dk_181 0 21 (dk_at dksX8_init_0 19 rfl rfl)
theorem dX8_init_22 : decode cX8_init 22 = .ok (.aload_n 0, 1) := dk_42 (dk_at dksX8_init_0 22 rfl rfl)
theorem dX8_init_23 : decode cX8_init 23 = .ok (.iload_n 2, 1) := dk_28 (dk_at dksX8_init_0 23 rfl rfl)
theorem dX8_init_24 : decode cX8_init 24 = .ok (.putfield 25, 3) := dk_181 0 25 (dk_at dksX8_init_1 0 rfl rfl)
theorem dX8_init_27 : decode cX8_init 27 = .ok (.aload_n 0, 1) := dk_42 (dk_at dksX8_init_1 3 rfl rfl)
theorem dX8_init_28 : decode cX8_init 28 = .ok (.invokevirtual 29, 3) := dk_182 0 29 (dk_at dksX8_init_1 4 rfl rfl)
theorem dX8_init_31 : decode cX8_init 31 = .ok (.return_, 1) := dk_177 (dk_at dksX8_init_1 7 rfl rfl)
abbrev cX8_go : ByteArray := prog_11_method_6_code
def yX8_go : MethodName := ⟨RX8, "go", "()V"⟩
def dkwX8_go_14 : List UInt8 := [146, 184, 0, 97, 181, 0, 11, 42, 89, 180, 0, 32, 4, 96, 181, 0, 32, 177]
abbrev dktX8_go_14 : List UInt8 := dkwX8_go_14 ++ []
def dkwX8_go_13 : List UInt8 := [178, 0, 91, 167, 0, 6, 178, 0, 94, 181, 0, 52, 42, 180, 0, 52, 178, 0, 91, 166, 0, 12, 42, 27]
abbrev dktX8_go_13 : List UInt8 := dkwX8_go_13 ++ dktX8_go_14
def dkwX8_go_12 : List UInt8 := [3, 181, 0, 42, 42, 178, 0, 85, 181, 0, 52, 167, 0, 52, 42, 27, 184, 0, 88, 153, 0, 9]
abbrev dktX8_go_12 : List UInt8 := dkwX8_go_12 ++ dktX8_go_13
def dkwX8_go_11 : List UInt8 := [181, 0, 32, 167, 255, 196, 42, 42, 180, 0, 32, 42, 180, 0, 39, 100, 7, 164, 0, 7, 4, 167, 0, 4]
abbrev dktX8_go_11 : List UInt8 := dkwX8_go_11 ++ dktX8_go_12
def dkwX8_go_10 : List UInt8 := [42, 42, 180, 0, 32, 182, 0, 35, 96, 16, 48, 100, 181, 0, 82, 42, 89, 180, 0, 32, 4, 96]
abbrev dktX8_go_10 : List UInt8 := dkwX8_go_10 ++ dktX8_go_11
def dkwX8_go_9 : List UInt8 := [153, 0, 52, 42, 180, 0, 32, 42, 180, 0, 39, 100, 7, 162, 0, 26, 42, 16, 10, 42, 180, 0, 82, 104]
abbrev dktX8_go_9 : List UInt8 := dkwX8_go_9 ++ dktX8_go_10
def dkwX8_go_8 : List UInt8 := [184, 0, 79, 153, 0, 103, 42, 3, 181, 0, 82, 42, 42, 180, 0, 32, 182, 0, 35, 184, 0, 79]
abbrev dktX8_go_8 : List UInt8 := dkwX8_go_8 ++ dktX8_go_9
def dkwX8_go_7 : List UInt8 := [167, 255, 209, 42, 44, 182, 0, 72, 181, 0, 11, 42, 178, 0, 76, 181, 0, 52, 167, 0, 159, 27]
abbrev dktX8_go_7 : List UInt8 := dkwX8_go_7 ++ dktX8_go_8
def dkwX8_go_6 : List UInt8 := [42, 180, 0, 32, 182, 0, 35, 146, 182, 0, 68, 87, 42, 89, 180, 0, 32, 4, 96, 181, 0, 32]
abbrev dktX8_go_6 : List UInt8 := dkwX8_go_6 ++ dktX8_go_7
def dkwX8_go_5 : List UInt8 := [42, 180, 0, 32, 182, 0, 35, 184, 0, 55, 153, 0, 39, 44, 182, 0, 64, 16, 9, 162, 0, 17, 44, 42]
abbrev dktX8_go_5 : List UInt8 := dkwX8_go_5 ++ dktX8_go_6
def dkwX8_go_4 : List UInt8 := [181, 0, 52, 167, 0, 244, 27, 184, 0, 55, 153, 0, 81, 187, 0, 59, 89, 16, 9, 183, 0, 61, 77, 42]
abbrev dktX8_go_4 : List UInt8 := dkwX8_go_4 ++ dktX8_go_5
def dkwX8_go_3 : List UInt8 := [180, 0, 32, 182, 0, 35, 60, 42, 180, 0, 32, 42, 180, 0, 25, 161, 0, 13, 42, 178, 0, 46]
abbrev dktX8_go_3 : List UInt8 := dkwX8_go_3 ++ dktX8_go_4
def dkwX8_go_2 : List UInt8 := [167, 255, 209, 42, 42, 180, 0, 32, 181, 0, 39, 42, 18, 9, 181, 0, 11, 42, 3, 181, 0, 42, 42, 42]
abbrev dktX8_go_2 : List UInt8 := dkwX8_go_2 ++ dktX8_go_3
def dkwX8_go_1 : List UInt8 := [42, 42, 180, 0, 32, 182, 0, 35, 16, 10, 160, 0, 16, 42, 89, 180, 0, 32, 4, 96, 181, 0, 32]
abbrev dktX8_go_1 : List UInt8 := dkwX8_go_1 ++ dktX8_go_2
def dkwX8_go_0 : List UInt8 := [42, 180, 0, 32, 42, 180, 0, 25, 162, 0, 42, 42, 42, 180, 0, 32, 182, 0, 35, 16, 32, 159, 0, 16]
abbrev dktX8_go_0 : List UInt8 := dkwX8_go_0 ++ dktX8_go_1
theorem dksX8_go_0 : cX8_go.data.toList.drop 0 = dktX8_go_0 := by decide +kernel
theorem dksX8_go_1 : cX8_go.data.toList.drop 24 = dktX8_go_1 := dk_seg dksX8_go_0 24 rfl rfl
theorem dksX8_go_2 : cX8_go.data.toList.drop 47 = dktX8_go_2 := dk_seg dksX8_go_1 23 rfl rfl
theorem dksX8_go_3 : cX8_go.data.toList.drop 71 = dktX8_go_3 := dk_seg dksX8_go_2 24 rfl rfl
theorem dksX8_go_4 : cX8_go.data.toList.drop 93 = dktX8_go_4 := dk_seg dksX8_go_3 22 rfl rfl
theorem dksX8_go_5 : cX8_go.data.toList.drop 117 = dktX8_go_5 := dk_seg dksX8_go_4 24 rfl rfl
theorem dksX8_go_6 : cX8_go.data.toList.drop 141 = dktX8_go_6 := dk_seg dksX8_go_5 24 rfl rfl
theorem dksX8_go_7 : cX8_go.data.toList.drop 163 = dktX8_go_7 := dk_seg dksX8_go_6 22 rfl rfl
theorem dksX8_go_8 : cX8_go.data.toList.drop 185 = dktX8_go_8 := dk_seg dksX8_go_7 22 rfl rfl
theorem dksX8_go_9 : cX8_go.data.toList.drop 207 = dktX8_go_9 := dk_seg dksX8_go_8 22 rfl rfl
theorem dksX8_go_10 : cX8_go.data.toList.drop 231 = dktX8_go_10 := dk_seg dksX8_go_9 24 rfl rfl
theorem dksX8_go_11 : cX8_go.data.toList.drop 253 = dktX8_go_11 := dk_seg dksX8_go_10 22 rfl rfl
theorem dksX8_go_12 : cX8_go.data.toList.drop 277 = dktX8_go_12 := dk_seg dksX8_go_11 24 rfl rfl
theorem dksX8_go_13 : cX8_go.data.toList.drop 299 = dktX8_go_13 := dk_seg dksX8_go_12 22 rfl rfl
theorem dksX8_go_14 : cX8_go.data.toList.drop 323 = dktX8_go_14 := dk_seg dksX8_go_13 24 rfl rfl
theorem dX8_go_0 : decode cX8_go 0 = .ok (.aload_n 0, 1) := dk_42 (dk_at dksX8_go_0 0 rfl rfl)
theorem dX8_go_1 : decode cX8_go 1 = .ok (.getfield 32, 3) := dk_180 0 32 (dk_at dksX8_go_0 1 rfl rfl)
theorem dX8_go_4 : decode cX8_go 4 = .ok (.aload_n 0, 1) := dk_42 (dk_at dksX8_go_0 4 rfl rfl)
theorem dX8_go_5 : decode cX8_go 5 = .ok (.getfield 25, 3) := dk_180 0 25 (dk_at dksX8_go_0 5 rfl rfl)
theorem dX8_go_8 : decode cX8_go 8 = .ok (.if_icmp .ge 42, 3) := dk_162 0 42 (dk_at dksX8_go_0 8 rfl rfl)
theorem dX8_go_11 : decode cX8_go 11 = .ok (.aload_n 0, 1) := dk_42 (dk_at dksX8_go_0 11 rfl rfl)
theorem dX8_go_12 : decode cX8_go 12 = .ok (.aload_n 0, 1) := dk_42 (dk_at dksX8_go_0 12 rfl rfl)
theorem dX8_go_13 : decode cX8_go 13 = .ok (.getfield 32, 3) := dk_180 0 32 (dk_at dksX8_go_0 13 rfl rfl)
theorem dX8_go_16 : decode cX8_go 16 = .ok (.invokevirtual 35, 3) := dk_182 0 35 (dk_at dksX8_go_0 16 rfl rfl)
theorem dX8_go_19 : decode cX8_go 19 = .ok (.bipush 32, 2) := dk_16 32 (dk_at dksX8_go_0 19 rfl rfl)
theorem dX8_go_21 : decode cX8_go 21 = .ok (.if_icmp .eq 16, 3) := dk_159 0 16 (dk_at dksX8_go_0 21 rfl rfl)
theorem dX8_go_24 : decode cX8_go 24 = .ok (.aload_n 0, 1) := dk_42 (dk_at dksX8_go_1 0 rfl rfl)
theorem dX8_go_25 : decode cX8_go 25 = .ok (.aload_n 0, 1) := dk_42 (dk_at dksX8_go_1 1 rfl rfl)
theorem dX8_go_26 : decode cX8_go 26 = .ok (.getfield 32, 3) := dk_180 0 32 (dk_at dksX8_go_1 2 rfl rfl)
theorem dX8_go_29 : decode cX8_go 29 = .ok (.invokevirtual 35, 3) := dk_182 0 35 (dk_at dksX8_go_1 5 rfl rfl)
theorem dX8_go_32 : decode cX8_go 32 = .ok (.bipush 10, 2) := dk_16 10 (dk_at dksX8_go_1 8 rfl rfl)
theorem dX8_go_34 : decode cX8_go 34 = .ok (.if_icmp .ne 16, 3) := dk_160 0 16 (dk_at dksX8_go_1 10 rfl rfl)
theorem dX8_go_37 : decode cX8_go 37 = .ok (.aload_n 0, 1) := dk_42 (dk_at dksX8_go_1 13 rfl rfl)
theorem dX8_go_38 : decode cX8_go 38 = .ok (.dup, 1) := dk_89 (dk_at dksX8_go_1 14 rfl rfl)
theorem dX8_go_39 : decode cX8_go 39 = .ok (.getfield 32, 3) := dk_180 0 32 (dk_at dksX8_go_1 15 rfl rfl)
theorem dX8_go_42 : decode cX8_go 42 = .ok (.iconst 1, 1) := dk_4 (dk_at dksX8_go_1 18 rfl rfl)
theorem dX8_go_43 : decode cX8_go 43 = .ok (.iadd, 1) := dk_96 (dk_at dksX8_go_1 19 rfl rfl)
theorem dX8_go_44 : decode cX8_go 44 = .ok (.putfield 32, 3) := dk_181 0 32 (dk_at dksX8_go_1 20 rfl rfl)
theorem dX8_go_47 : decode cX8_go 47 = .ok (.goto (-47), 3) := dk_167 255 209 (dk_at dksX8_go_2 0 rfl rfl)
theorem dX8_go_50 : decode cX8_go 50 = .ok (.aload_n 0, 1) := dk_42 (dk_at dksX8_go_2 3 rfl rfl)
theorem dX8_go_51 : decode cX8_go 51 = .ok (.aload_n 0, 1) := dk_42 (dk_at dksX8_go_2 4 rfl rfl)
theorem dX8_go_52 : decode cX8_go 52 = .ok (.getfield 32, 3) := dk_180 0 32 (dk_at dksX8_go_2 5 rfl rfl)
theorem dX8_go_55 : decode cX8_go 55 = .ok (.putfield 39, 3) := dk_181 0 39 (dk_at dksX8_go_2 8 rfl rfl)
theorem dX8_go_58 : decode cX8_go 58 = .ok (.aload_n 0, 1) := dk_42 (dk_at dksX8_go_2 11 rfl rfl)
theorem dX8_go_59 : decode cX8_go 59 = .ok (.ldc 9, 2) := dk_18 9 (dk_at dksX8_go_2 12 rfl rfl)
theorem dX8_go_61 : decode cX8_go 61 = .ok (.putfield 11, 3) := dk_181 0 11 (dk_at dksX8_go_2 14 rfl rfl)
theorem dX8_go_64 : decode cX8_go 64 = .ok (.aload_n 0, 1) := dk_42 (dk_at dksX8_go_2 17 rfl rfl)
theorem dX8_go_65 : decode cX8_go 65 = .ok (.iconst 0, 1) := dk_3 (dk_at dksX8_go_2 18 rfl rfl)
theorem dX8_go_66 : decode cX8_go 66 = .ok (.putfield 42, 3) := dk_181 0 42 (dk_at dksX8_go_2 19 rfl rfl)
theorem dX8_go_69 : decode cX8_go 69 = .ok (.aload_n 0, 1) := dk_42 (dk_at dksX8_go_2 22 rfl rfl)
theorem dX8_go_70 : decode cX8_go 70 = .ok (.aload_n 0, 1) := dk_42 (dk_at dksX8_go_2 23 rfl rfl)
theorem dX8_go_71 : decode cX8_go 71 = .ok (.getfield 32, 3) := dk_180 0 32 (dk_at dksX8_go_3 0 rfl rfl)
theorem dX8_go_74 : decode cX8_go 74 = .ok (.invokevirtual 35, 3) := dk_182 0 35 (dk_at dksX8_go_3 3 rfl rfl)
theorem dX8_go_77 : decode cX8_go 77 = .ok (.istore_n 1, 1) := dk_60 (dk_at dksX8_go_3 6 rfl rfl)
theorem dX8_go_78 : decode cX8_go 78 = .ok (.aload_n 0, 1) := dk_42 (dk_at dksX8_go_3 7 rfl rfl)
theorem dX8_go_79 : decode cX8_go 79 = .ok (.getfield 32, 3) := dk_180 0 32 (dk_at dksX8_go_3 8 rfl rfl)
theorem dX8_go_82 : decode cX8_go 82 = .ok (.aload_n 0, 1) := dk_42 (dk_at dksX8_go_3 11 rfl rfl)
theorem dX8_go_83 : decode cX8_go 83 = .ok (.getfield 25, 3) := dk_180 0 25 (dk_at dksX8_go_3 12 rfl rfl)
theorem dX8_go_86 : decode cX8_go 86 = .ok (.if_icmp .lt 13, 3) := dk_161 0 13 (dk_at dksX8_go_3 15 rfl rfl)
theorem dX8_go_89 : decode cX8_go 89 = .ok (.aload_n 0, 1) := dk_42 (dk_at dksX8_go_3 18 rfl rfl)
theorem dX8_go_90 : decode cX8_go 90 = .ok (.getstatic 46, 3) := dk_178 0 46 (dk_at dksX8_go_3 19 rfl rfl)
theorem dX8_go_93 : decode cX8_go 93 = .ok (.putfield 52, 3) := dk_181 0 52 (dk_at dksX8_go_4 0 rfl rfl)
theorem dX8_go_96 : decode cX8_go 96 = .ok (.goto 244, 3) := dk_167 0 244 (dk_at dksX8_go_4 3 rfl rfl)
theorem dX8_go_99 : decode cX8_go 99 = .ok (.iload_n 1, 1) := dk_27 (dk_at dksX8_go_4 6 rfl rfl)
theorem dX8_go_100 : decode cX8_go 100 = .ok (.invokestatic 55, 3) := dk_184 0 55 (dk_at dksX8_go_4 7 rfl rfl)
theorem dX8_go_103 : decode cX8_go 103 = .ok (.ifCond .eq 81, 3) := dk_153 0 81 (dk_at dksX8_go_4 10 rfl rfl)
theorem dX8_go_106 : decode cX8_go 106 = .ok (.new 59, 3) := dk_187 0 59 (dk_at dksX8_go_4 13 rfl rfl)
theorem dX8_go_109 : decode cX8_go 109 = .ok (.dup, 1) := dk_89 (dk_at dksX8_go_4 16 rfl rfl)
theorem dX8_go_110 : decode cX8_go 110 = .ok (.bipush 9, 2) := dk_16 9 (dk_at dksX8_go_4 17 rfl rfl)
theorem dX8_go_112 : decode cX8_go 112 = .ok (.invokespecial 61, 3) := dk_183 0 61 (dk_at dksX8_go_4 19 rfl rfl)
theorem dX8_go_115 : decode cX8_go 115 = .ok (.astore_n 2, 1) := dk_77 (dk_at dksX8_go_4 22 rfl rfl)
theorem dX8_go_116 : decode cX8_go 116 = .ok (.aload_n 0, 1) := dk_42 (dk_at dksX8_go_4 23 rfl rfl)
theorem dX8_go_117 : decode cX8_go 117 = .ok (.aload_n 0, 1) := dk_42 (dk_at dksX8_go_5 0 rfl rfl)
theorem dX8_go_118 : decode cX8_go 118 = .ok (.getfield 32, 3) := dk_180 0 32 (dk_at dksX8_go_5 1 rfl rfl)
theorem dX8_go_121 : decode cX8_go 121 = .ok (.invokevirtual 35, 3) := dk_182 0 35 (dk_at dksX8_go_5 4 rfl rfl)
theorem dX8_go_124 : decode cX8_go 124 = .ok (.invokestatic 55, 3) := dk_184 0 55 (dk_at dksX8_go_5 7 rfl rfl)
theorem dX8_go_127 : decode cX8_go 127 = .ok (.ifCond .eq 39, 3) := dk_153 0 39 (dk_at dksX8_go_5 10 rfl rfl)
theorem dX8_go_130 : decode cX8_go 130 = .ok (.aload_n 2, 1) := dk_44 (dk_at dksX8_go_5 13 rfl rfl)
theorem dX8_go_131 : decode cX8_go 131 = .ok (.invokevirtual 64, 3) := dk_182 0 64 (dk_at dksX8_go_5 14 rfl rfl)
theorem dX8_go_134 : decode cX8_go 134 = .ok (.bipush 9, 2) := dk_16 9 (dk_at dksX8_go_5 17 rfl rfl)
theorem dX8_go_136 : decode cX8_go 136 = .ok (.if_icmp .ge 17, 3) := dk_162 0 17 (dk_at dksX8_go_5 19 rfl rfl)
theorem dX8_go_139 : decode cX8_go 139 = .ok (.aload_n 2, 1) := dk_44 (dk_at dksX8_go_5 22 rfl rfl)
theorem dX8_go_140 : decode cX8_go 140 = .ok (.aload_n 0, 1) := dk_42 (dk_at dksX8_go_5 23 rfl rfl)
theorem dX8_go_141 : decode cX8_go 141 = .ok (.aload_n 0, 1) := dk_42 (dk_at dksX8_go_6 0 rfl rfl)
theorem dX8_go_142 : decode cX8_go 142 = .ok (.getfield 32, 3) := dk_180 0 32 (dk_at dksX8_go_6 1 rfl rfl)
theorem dX8_go_145 : decode cX8_go 145 = .ok (.invokevirtual 35, 3) := dk_182 0 35 (dk_at dksX8_go_6 4 rfl rfl)
theorem dX8_go_148 : decode cX8_go 148 = .ok (.i2c, 1) := dk_146 (dk_at dksX8_go_6 7 rfl rfl)
theorem dX8_go_149 : decode cX8_go 149 = .ok (.invokevirtual 68, 3) := dk_182 0 68 (dk_at dksX8_go_6 8 rfl rfl)
theorem dX8_go_152 : decode cX8_go 152 = .ok (.pop, 1) := dk_87 (dk_at dksX8_go_6 11 rfl rfl)
theorem dX8_go_153 : decode cX8_go 153 = .ok (.aload_n 0, 1) := dk_42 (dk_at dksX8_go_6 12 rfl rfl)
theorem dX8_go_154 : decode cX8_go 154 = .ok (.dup, 1) := dk_89 (dk_at dksX8_go_6 13 rfl rfl)
theorem dX8_go_155 : decode cX8_go 155 = .ok (.getfield 32, 3) := dk_180 0 32 (dk_at dksX8_go_6 14 rfl rfl)
theorem dX8_go_158 : decode cX8_go 158 = .ok (.iconst 1, 1) := dk_4 (dk_at dksX8_go_6 17 rfl rfl)
theorem dX8_go_159 : decode cX8_go 159 = .ok (.iadd, 1) := dk_96 (dk_at dksX8_go_6 18 rfl rfl)
theorem dX8_go_160 : decode cX8_go 160 = .ok (.putfield 32, 3) := dk_181 0 32 (dk_at dksX8_go_6 19 rfl rfl)
theorem dX8_go_163 : decode cX8_go 163 = .ok (.goto (-47), 3) := dk_167 255 209 (dk_at dksX8_go_7 0 rfl rfl)
theorem dX8_go_166 : decode cX8_go 166 = .ok (.aload_n 0, 1) := dk_42 (dk_at dksX8_go_7 3 rfl rfl)
theorem dX8_go_167 : decode cX8_go 167 = .ok (.aload_n 2, 1) := dk_44 (dk_at dksX8_go_7 4 rfl rfl)
theorem dX8_go_168 : decode cX8_go 168 = .ok (.invokevirtual 72, 3) := dk_182 0 72 (dk_at dksX8_go_7 5 rfl rfl)
theorem dX8_go_171 : decode cX8_go 171 = .ok (.putfield 11, 3) := dk_181 0 11 (dk_at dksX8_go_7 8 rfl rfl)
theorem dX8_go_174 : decode cX8_go 174 = .ok (.aload_n 0, 1) := dk_42 (dk_at dksX8_go_7 11 rfl rfl)
theorem dX8_go_175 : decode cX8_go 175 = .ok (.getstatic 76, 3) := dk_178 0 76 (dk_at dksX8_go_7 12 rfl rfl)
theorem dX8_go_178 : decode cX8_go 178 = .ok (.putfield 52, 3) := dk_181 0 52 (dk_at dksX8_go_7 15 rfl rfl)
theorem dX8_go_181 : decode cX8_go 181 = .ok (.goto 159, 3) := dk_167 0 159 (dk_at dksX8_go_7 18 rfl rfl)
theorem dX8_go_184 : decode cX8_go 184 = .ok (.iload_n 1, 1) := dk_27 (dk_at dksX8_go_7 21 rfl rfl)
theorem dX8_go_185 : decode cX8_go 185 = .ok (.invokestatic 79, 3) := dk_184 0 79 (dk_at dksX8_go_8 0 rfl rfl)
theorem dX8_go_188 : decode cX8_go 188 = .ok (.ifCond .eq 103, 3) := dk_153 0 103 (dk_at dksX8_go_8 3 rfl rfl)
theorem dX8_go_191 : decode cX8_go 191 = .ok (.aload_n 0, 1) := dk_42 (dk_at dksX8_go_8 6 rfl rfl)
theorem dX8_go_192 : decode cX8_go 192 = .ok (.iconst 0, 1) := dk_3 (dk_at dksX8_go_8 7 rfl rfl)
theorem dX8_go_193 : decode cX8_go 193 = .ok (.putfield 82, 3) := dk_181 0 82 (dk_at dksX8_go_8 8 rfl rfl)
theorem dX8_go_196 : decode cX8_go 196 = .ok (.aload_n 0, 1) := dk_42 (dk_at dksX8_go_8 11 rfl rfl)
theorem dX8_go_197 : decode cX8_go 197 = .ok (.aload_n 0, 1) := dk_42 (dk_at dksX8_go_8 12 rfl rfl)
theorem dX8_go_198 : decode cX8_go 198 = .ok (.getfield 32, 3) := dk_180 0 32 (dk_at dksX8_go_8 13 rfl rfl)
theorem dX8_go_201 : decode cX8_go 201 = .ok (.invokevirtual 35, 3) := dk_182 0 35 (dk_at dksX8_go_8 16 rfl rfl)
theorem dX8_go_204 : decode cX8_go 204 = .ok (.invokestatic 79, 3) := dk_184 0 79 (dk_at dksX8_go_8 19 rfl rfl)
theorem dX8_go_207 : decode cX8_go 207 = .ok (.ifCond .eq 52, 3) := dk_153 0 52 (dk_at dksX8_go_9 0 rfl rfl)
theorem dX8_go_210 : decode cX8_go 210 = .ok (.aload_n 0, 1) := dk_42 (dk_at dksX8_go_9 3 rfl rfl)
theorem dX8_go_211 : decode cX8_go 211 = .ok (.getfield 32, 3) := dk_180 0 32 (dk_at dksX8_go_9 4 rfl rfl)
theorem dX8_go_214 : decode cX8_go 214 = .ok (.aload_n 0, 1) := dk_42 (dk_at dksX8_go_9 7 rfl rfl)
theorem dX8_go_215 : decode cX8_go 215 = .ok (.getfield 39, 3) := dk_180 0 39 (dk_at dksX8_go_9 8 rfl rfl)
theorem dX8_go_218 : decode cX8_go 218 = .ok (.isub, 1) := dk_100 (dk_at dksX8_go_9 11 rfl rfl)
theorem dX8_go_219 : decode cX8_go 219 = .ok (.iconst 4, 1) := dk_7 (dk_at dksX8_go_9 12 rfl rfl)
theorem dX8_go_220 : decode cX8_go 220 = .ok (.if_icmp .ge 26, 3) := dk_162 0 26 (dk_at dksX8_go_9 13 rfl rfl)
theorem dX8_go_223 : decode cX8_go 223 = .ok (.aload_n 0, 1) := dk_42 (dk_at dksX8_go_9 16 rfl rfl)
theorem dX8_go_224 : decode cX8_go 224 = .ok (.bipush 10, 2) := dk_16 10 (dk_at dksX8_go_9 17 rfl rfl)
theorem dX8_go_226 : decode cX8_go 226 = .ok (.aload_n 0, 1) := dk_42 (dk_at dksX8_go_9 19 rfl rfl)
theorem dX8_go_227 : decode cX8_go 227 = .ok (.getfield 82, 3) := dk_180 0 82 (dk_at dksX8_go_9 20 rfl rfl)
theorem dX8_go_230 : decode cX8_go 230 = .ok (.imul, 1) := dk_104 (dk_at dksX8_go_9 23 rfl rfl)
theorem dX8_go_231 : decode cX8_go 231 = .ok (.aload_n 0, 1) := dk_42 (dk_at dksX8_go_10 0 rfl rfl)
theorem dX8_go_232 : decode cX8_go 232 = .ok (.aload_n 0, 1) := dk_42 (dk_at dksX8_go_10 1 rfl rfl)
theorem dX8_go_233 : decode cX8_go 233 = .ok (.getfield 32, 3) := dk_180 0 32 (dk_at dksX8_go_10 2 rfl rfl)
theorem dX8_go_236 : decode cX8_go 236 = .ok (.invokevirtual 35, 3) := dk_182 0 35 (dk_at dksX8_go_10 5 rfl rfl)
theorem dX8_go_239 : decode cX8_go 239 = .ok (.iadd, 1) := dk_96 (dk_at dksX8_go_10 8 rfl rfl)
theorem dX8_go_240 : decode cX8_go 240 = .ok (.bipush 48, 2) := dk_16 48 (dk_at dksX8_go_10 9 rfl rfl)
theorem dX8_go_242 : decode cX8_go 242 = .ok (.isub, 1) := dk_100 (dk_at dksX8_go_10 11 rfl rfl)
theorem dX8_go_243 : decode cX8_go 243 = .ok (.putfield 82, 3) := dk_181 0 82 (dk_at dksX8_go_10 12 rfl rfl)
theorem dX8_go_246 : decode cX8_go 246 = .ok (.aload_n 0, 1) := dk_42 (dk_at dksX8_go_10 15 rfl rfl)
theorem dX8_go_247 : decode cX8_go 247 = .ok (.dup, 1) := dk_89 (dk_at dksX8_go_10 16 rfl rfl)
theorem dX8_go_248 : decode cX8_go 248 = .ok (.getfield 32, 3) := dk_180 0 32 (dk_at dksX8_go_10 17 rfl rfl)
theorem dX8_go_251 : decode cX8_go 251 = .ok (.iconst 1, 1) := dk_4 (dk_at dksX8_go_10 20 rfl rfl)
theorem dX8_go_252 : decode cX8_go 252 = .ok (.iadd, 1) := dk_96 (dk_at dksX8_go_10 21 rfl rfl)
theorem dX8_go_253 : decode cX8_go 253 = .ok (.putfield 32, 3) := dk_181 0 32 (dk_at dksX8_go_11 0 rfl rfl)
theorem dX8_go_256 : decode cX8_go 256 = .ok (.goto (-60), 3) := dk_167 255 196 (dk_at dksX8_go_11 3 rfl rfl)
theorem dX8_go_259 : decode cX8_go 259 = .ok (.aload_n 0, 1) := dk_42 (dk_at dksX8_go_11 6 rfl rfl)
theorem dX8_go_260 : decode cX8_go 260 = .ok (.aload_n 0, 1) := dk_42 (dk_at dksX8_go_11 7 rfl rfl)
theorem dX8_go_261 : decode cX8_go 261 = .ok (.getfield 32, 3) := dk_180 0 32 (dk_at dksX8_go_11 8 rfl rfl)
theorem dX8_go_264 : decode cX8_go 264 = .ok (.aload_n 0, 1) := dk_42 (dk_at dksX8_go_11 11 rfl rfl)
theorem dX8_go_265 : decode cX8_go 265 = .ok (.getfield 39, 3) := dk_180 0 39 (dk_at dksX8_go_11 12 rfl rfl)
theorem dX8_go_268 : decode cX8_go 268 = .ok (.isub, 1) := dk_100 (dk_at dksX8_go_11 15 rfl rfl)
theorem dX8_go_269 : decode cX8_go 269 = .ok (.iconst 4, 1) := dk_7 (dk_at dksX8_go_11 16 rfl rfl)
theorem dX8_go_270 : decode cX8_go 270 = .ok (.if_icmp .le 7, 3) := dk_164 0 7 (dk_at dksX8_go_11 17 rfl rfl)
theorem dX8_go_273 : decode cX8_go 273 = .ok (.iconst 1, 1) := dk_4 (dk_at dksX8_go_11 20 rfl rfl)
theorem dX8_go_274 : decode cX8_go 274 = .ok (.goto 4, 3) := dk_167 0 4 (dk_at dksX8_go_11 21 rfl rfl)
theorem dX8_go_277 : decode cX8_go 277 = .ok (.iconst 0, 1) := dk_3 (dk_at dksX8_go_12 0 rfl rfl)
theorem dX8_go_278 : decode cX8_go 278 = .ok (.putfield 42, 3) := dk_181 0 42 (dk_at dksX8_go_12 1 rfl rfl)
theorem dX8_go_281 : decode cX8_go 281 = .ok (.aload_n 0, 1) := dk_42 (dk_at dksX8_go_12 4 rfl rfl)
theorem dX8_go_282 : decode cX8_go 282 = .ok (.getstatic 85, 3) := dk_178 0 85 (dk_at dksX8_go_12 5 rfl rfl)
theorem dX8_go_285 : decode cX8_go 285 = .ok (.putfield 52, 3) := dk_181 0 52 (dk_at dksX8_go_12 8 rfl rfl)
theorem dX8_go_288 : decode cX8_go 288 = .ok (.goto 52, 3) := dk_167 0 52 (dk_at dksX8_go_12 11 rfl rfl)
theorem dX8_go_291 : decode cX8_go 291 = .ok (.aload_n 0, 1) := dk_42 (dk_at dksX8_go_12 14 rfl rfl)
theorem dX8_go_292 : decode cX8_go 292 = .ok (.iload_n 1, 1) := dk_27 (dk_at dksX8_go_12 15 rfl rfl)
theorem dX8_go_293 : decode cX8_go 293 = .ok (.invokestatic 88, 3) := dk_184 0 88 (dk_at dksX8_go_12 16 rfl rfl)
theorem dX8_go_296 : decode cX8_go 296 = .ok (.ifCond .eq 9, 3) := dk_153 0 9 (dk_at dksX8_go_12 19 rfl rfl)
theorem dX8_go_299 : decode cX8_go 299 = .ok (.getstatic 91, 3) := dk_178 0 91 (dk_at dksX8_go_13 0 rfl rfl)
theorem dX8_go_302 : decode cX8_go 302 = .ok (.goto 6, 3) := dk_167 0 6 (dk_at dksX8_go_13 3 rfl rfl)
theorem dX8_go_305 : decode cX8_go 305 = .ok (.getstatic 94, 3) := dk_178 0 94 (dk_at dksX8_go_13 6 rfl rfl)
theorem dX8_go_308 : decode cX8_go 308 = .ok (.putfield 52, 3) := dk_181 0 52 (dk_at dksX8_go_13 9 rfl rfl)
theorem dX8_go_311 : decode cX8_go 311 = .ok (.aload_n 0, 1) := dk_42 (dk_at dksX8_go_13 12 rfl rfl)
theorem dX8_go_312 : decode cX8_go 312 = .ok (.getfield 52, 3) := dk_180 0 52 (dk_at dksX8_go_13 13 rfl rfl)
theorem dX8_go_315 : decode cX8_go 315 = .ok (.getstatic 91, 3) := dk_178 0 91 (dk_at dksX8_go_13 16 rfl rfl)
theorem dX8_go_318 : decode cX8_go 318 = .ok (.if_acmp .ne 12, 3) := dk_166 0 12 (dk_at dksX8_go_13 19 rfl rfl)
theorem dX8_go_321 : decode cX8_go 321 = .ok (.aload_n 0, 1) := dk_42 (dk_at dksX8_go_13 22 rfl rfl)
theorem dX8_go_322 : decode cX8_go 322 = .ok (.iload_n 1, 1) := dk_27 (dk_at dksX8_go_13 23 rfl rfl)
theorem dX8_go_323 : decode cX8_go 323 = .ok (.i2c, 1) := dk_146 (dk_at dksX8_go_14 0 rfl rfl)
theorem dX8_go_324 : decode cX8_go 324 = .ok (.invokestatic 97, 3) := dk_184 0 97 (dk_at dksX8_go_14 1 rfl rfl)
theorem dX8_go_327 : decode cX8_go 327 = .ok (.putfield 11, 3) := dk_181 0 11 (dk_at dksX8_go_14 4 rfl rfl)
theorem dX8_go_330 : decode cX8_go 330 = .ok (.aload_n 0, 1) := dk_42 (dk_at dksX8_go_14 7 rfl rfl)
theorem dX8_go_331 : decode cX8_go 331 = .ok (.dup, 1) := dk_89 (dk_at dksX8_go_14 8 rfl rfl)
theorem dX8_go_332 : decode cX8_go 332 = .ok (.getfield 32, 3) := dk_180 0 32 (dk_at dksX8_go_14 9 rfl rfl)
theorem dX8_go_335 : decode cX8_go 335 = .ok (.iconst 1, 1) := dk_4 (dk_at dksX8_go_14 12 rfl rfl)
theorem dX8_go_336 : decode cX8_go 336 = .ok (.iadd, 1) := dk_96 (dk_at dksX8_go_14 13 rfl rfl)
theorem dX8_go_337 : decode cX8_go 337 = .ok (.putfield 32, 3) := dk_181 0 32 (dk_at dksX8_go_14 14 rfl rfl)
theorem dX8_go_340 : decode cX8_go 340 = .ok (.return_, 1) := dk_177 (dk_at dksX8_go_14 17 rfl rfl)
abbrev cX8_byteAt : ByteArray := prog_11_method_2_code
def yX8_byteAt : MethodName := ⟨RX8, "byteAt", "(I)I"⟩
def dkwX8_byteAt_0 : List UInt8 := [27, 42, 180, 0, 25, 162, 0, 16, 42, 180, 0, 21, 27, 51, 17, 0, 255, 126, 167, 0, 4, 3, 172]
abbrev dktX8_byteAt_0 : List UInt8 := dkwX8_byteAt_0 ++ []
theorem dksX8_byteAt_0 : cX8_byteAt.data.toList.drop 0 = dktX8_byteAt_0 := by decide +kernel
theorem dX8_byteAt_0 : decode cX8_byteAt 0 = .ok (.iload_n 1, 1) := dk_27 (dk_at dksX8_byteAt_0 0 rfl rfl)
theorem dX8_byteAt_1 : decode cX8_byteAt 1 = .ok (.aload_n 0, 1) := dk_42 (dk_at dksX8_byteAt_0 1 rfl rfl)
theorem dX8_byteAt_2 : decode cX8_byteAt 2 = .ok (.getfield 25, 3) := dk_180 0 25 (dk_at dksX8_byteAt_0 2 rfl rfl)
theorem dX8_byteAt_5 : decode cX8_byteAt 5 = .ok (.if_icmp .ge 16, 3) := dk_162 0 16 (dk_at dksX8_byteAt_0 5 rfl rfl)
theorem dX8_byteAt_8 : decode cX8_byteAt 8 = .ok (.aload_n 0, 1) := dk_42 (dk_at dksX8_byteAt_0 8 rfl rfl)
theorem dX8_byteAt_9 : decode cX8_byteAt 9 = .ok (.getfield 21, 3) := dk_180 0 21 (dk_at dksX8_byteAt_0 9 rfl rfl)
theorem dX8_byteAt_12 : decode cX8_byteAt 12 = .ok (.iload_n 1, 1) := dk_27 (dk_at dksX8_byteAt_0 12 rfl rfl)
theorem dX8_byteAt_13 : decode cX8_byteAt 13 = .ok (.baload, 1) := dk_51 (dk_at dksX8_byteAt_0 13 rfl rfl)
theorem dX8_byteAt_14 : decode cX8_byteAt 14 = .ok (.sipush 255, 3) := dk_17 0 255 (dk_at dksX8_byteAt_0 14 rfl rfl)
theorem dX8_byteAt_17 : decode cX8_byteAt 17 = .ok (.iand, 1) := dk_126 (dk_at dksX8_byteAt_0 17 rfl rfl)
theorem dX8_byteAt_18 : decode cX8_byteAt 18 = .ok (.goto 4, 3) := dk_167 0 4 (dk_at dksX8_byteAt_0 18 rfl rfl)
theorem dX8_byteAt_21 : decode cX8_byteAt 21 = .ok (.iconst 0, 1) := dk_3 (dk_at dksX8_byteAt_0 21 rfl rfl)
theorem dX8_byteAt_22 : decode cX8_byteAt 22 = .ok (.ireturn, 1) := dk_172 (dk_at dksX8_byteAt_0 22 rfl rfl)
abbrev cX8_isLetter : ByteArray := prog_11_method_3_code
def yX8_isLetter : MethodName := ⟨RX8, "isLetter", "(I)Z"⟩
def dkwX8_isLetter_0 : List UInt8 := [26, 16, 97, 161, 0, 13, 26, 16, 122, 163, 0, 7, 4, 167, 0, 4, 3, 172]
abbrev dktX8_isLetter_0 : List UInt8 := dkwX8_isLetter_0 ++ []
theorem dksX8_isLetter_0 : cX8_isLetter.data.toList.drop 0 = dktX8_isLetter_0 := by decide +kernel
theorem dX8_isLetter_0 : decode cX8_isLetter 0 = .ok (.iload_n 0, 1) := dk_26 (dk_at dksX8_isLetter_0 0 rfl rfl)
theorem dX8_isLetter_1 : decode cX8_isLetter 1 = .ok (.bipush 97, 2) := dk_16 97 (dk_at dksX8_isLetter_0 1 rfl rfl)
theorem dX8_isLetter_3 : decode cX8_isLetter 3 = .ok (.if_icmp .lt 13, 3) := dk_161 0 13 (dk_at dksX8_isLetter_0 3 rfl rfl)
theorem dX8_isLetter_6 : decode cX8_isLetter 6 = .ok (.iload_n 0, 1) := dk_26 (dk_at dksX8_isLetter_0 6 rfl rfl)
theorem dX8_isLetter_7 : decode cX8_isLetter 7 = .ok (.bipush 122, 2) := dk_16 122 (dk_at dksX8_isLetter_0 7 rfl rfl)
theorem dX8_isLetter_9 : decode cX8_isLetter 9 = .ok (.if_icmp .gt 7, 3) := dk_163 0 7 (dk_at dksX8_isLetter_0 9 rfl rfl)
theorem dX8_isLetter_12 : decode cX8_isLetter 12 = .ok (.iconst 1, 1) := dk_4 (dk_at dksX8_isLetter_0 12 rfl rfl)
theorem dX8_isLetter_13 : decode cX8_isLetter 13 = .ok (.goto 4, 3) := dk_167 0 4 (dk_at dksX8_isLetter_0 13 rfl rfl)
theorem dX8_isLetter_16 : decode cX8_isLetter 16 = .ok (.iconst 0, 1) := dk_3 (dk_at dksX8_isLetter_0 16 rfl rfl)
theorem dX8_isLetter_17 : decode cX8_isLetter 17 = .ok (.ireturn, 1) := dk_172 (dk_at dksX8_isLetter_0 17 rfl rfl)
abbrev cX8_isDigit : ByteArray := prog_11_method_4_code
def yX8_isDigit : MethodName := ⟨RX8, "isDigit", "(I)Z"⟩
def dkwX8_isDigit_0 : List UInt8 := [26, 16, 48, 161, 0, 13, 26, 16, 57, 163, 0, 7, 4, 167, 0, 4, 3, 172]
abbrev dktX8_isDigit_0 : List UInt8 := dkwX8_isDigit_0 ++ []
theorem dksX8_isDigit_0 : cX8_isDigit.data.toList.drop 0 = dktX8_isDigit_0 := by decide +kernel
theorem dX8_isDigit_0 : decode cX8_isDigit 0 = .ok (.iload_n 0, 1) := dk_26 (dk_at dksX8_isDigit_0 0 rfl rfl)
theorem dX8_isDigit_1 : decode cX8_isDigit 1 = .ok (.bipush 48, 2) := dk_16 48 (dk_at dksX8_isDigit_0 1 rfl rfl)
theorem dX8_isDigit_3 : decode cX8_isDigit 3 = .ok (.if_icmp .lt 13, 3) := dk_161 0 13 (dk_at dksX8_isDigit_0 3 rfl rfl)
theorem dX8_isDigit_6 : decode cX8_isDigit 6 = .ok (.iload_n 0, 1) := dk_26 (dk_at dksX8_isDigit_0 6 rfl rfl)
theorem dX8_isDigit_7 : decode cX8_isDigit 7 = .ok (.bipush 57, 2) := dk_16 57 (dk_at dksX8_isDigit_0 7 rfl rfl)
theorem dX8_isDigit_9 : decode cX8_isDigit 9 = .ok (.if_icmp .gt 7, 3) := dk_163 0 7 (dk_at dksX8_isDigit_0 9 rfl rfl)
theorem dX8_isDigit_12 : decode cX8_isDigit 12 = .ok (.iconst 1, 1) := dk_4 (dk_at dksX8_isDigit_0 12 rfl rfl)
theorem dX8_isDigit_13 : decode cX8_isDigit 13 = .ok (.goto 4, 3) := dk_167 0 4 (dk_at dksX8_isDigit_0 13 rfl rfl)
theorem dX8_isDigit_16 : decode cX8_isDigit 16 = .ok (.iconst 0, 1) := dk_3 (dk_at dksX8_isDigit_0 16 rfl rfl)
theorem dX8_isDigit_17 : decode cX8_isDigit 17 = .ok (.ireturn, 1) := dk_172 (dk_at dksX8_isDigit_0 17 rfl rfl)
abbrev cX8_isSign : ByteArray := prog_11_method_5_code
def yX8_isSign : MethodName := ⟨RX8, "isSign", "(I)Z"⟩
def dkwX8_isSign_2 : List UInt8 := [26, 16, 61, 160, 0, 7, 4, 167, 0, 4, 3, 172]
abbrev dktX8_isSign_2 : List UInt8 := dkwX8_isSign_2 ++ []
def dkwX8_isSign_1 : List UInt8 := [26, 16, 45, 159, 0, 27, 26, 16, 42, 159, 0, 21, 26, 16, 47, 159, 0, 15, 26, 16, 60, 159, 0, 9]
abbrev dktX8_isSign_1 : List UInt8 := dkwX8_isSign_1 ++ dktX8_isSign_2
def dkwX8_isSign_0 : List UInt8 := [26, 16, 59, 159, 0, 51, 26, 16, 40, 159, 0, 45, 26, 16, 41, 159, 0, 39, 26, 16, 43, 159, 0, 33]
abbrev dktX8_isSign_0 : List UInt8 := dkwX8_isSign_0 ++ dktX8_isSign_1
theorem dksX8_isSign_0 : cX8_isSign.data.toList.drop 0 = dktX8_isSign_0 := by decide +kernel
theorem dksX8_isSign_1 : cX8_isSign.data.toList.drop 24 = dktX8_isSign_1 := dk_seg dksX8_isSign_0 24 rfl rfl
theorem dksX8_isSign_2 : cX8_isSign.data.toList.drop 48 = dktX8_isSign_2 := dk_seg dksX8_isSign_1 24 rfl rfl
theorem dX8_isSign_0 : decode cX8_isSign 0 = .ok (.iload_n 0, 1) := dk_26 (dk_at dksX8_isSign_0 0 rfl rfl)
theorem dX8_isSign_1 : decode cX8_isSign 1 = .ok (.bipush 59, 2) := dk_16 59 (dk_at dksX8_isSign_0 1 rfl rfl)
theorem dX8_isSign_3 : decode cX8_isSign 3 = .ok (.if_icmp .eq 51, 3) := dk_159 0 51 (dk_at dksX8_isSign_0 3 rfl rfl)
theorem dX8_isSign_6 : decode cX8_isSign 6 = .ok (.iload_n 0, 1) := dk_26 (dk_at dksX8_isSign_0 6 rfl rfl)
theorem dX8_isSign_7 : decode cX8_isSign 7 = .ok (.bipush 40, 2) := dk_16 40 (dk_at dksX8_isSign_0 7 rfl rfl)
theorem dX8_isSign_9 : decode cX8_isSign 9 = .ok (.if_icmp .eq 45, 3) := dk_159 0 45 (dk_at dksX8_isSign_0 9 rfl rfl)
theorem dX8_isSign_12 : decode cX8_isSign 12 = .ok (.iload_n 0, 1) := dk_26 (dk_at dksX8_isSign_0 12 rfl rfl)
theorem dX8_isSign_13 : decode cX8_isSign 13 = .ok (.bipush 41, 2) := dk_16 41 (dk_at dksX8_isSign_0 13 rfl rfl)
theorem dX8_isSign_15 : decode cX8_isSign 15 = .ok (.if_icmp .eq 39, 3) := dk_159 0 39 (dk_at dksX8_isSign_0 15 rfl rfl)
theorem dX8_isSign_18 : decode cX8_isSign 18 = .ok (.iload_n 0, 1) := dk_26 (dk_at dksX8_isSign_0 18 rfl rfl)
theorem dX8_isSign_19 : decode cX8_isSign 19 = .ok (.bipush 43, 2) := dk_16 43 (dk_at dksX8_isSign_0 19 rfl rfl)
theorem dX8_isSign_21 : decode cX8_isSign 21 = .ok (.if_icmp .eq 33, 3) := dk_159 0 33 (dk_at dksX8_isSign_0 21 rfl rfl)
theorem dX8_isSign_24 : decode cX8_isSign 24 = .ok (.iload_n 0, 1) := dk_26 (dk_at dksX8_isSign_1 0 rfl rfl)
theorem dX8_isSign_25 : decode cX8_isSign 25 = .ok (.bipush 45, 2) := dk_16 45 (dk_at dksX8_isSign_1 1 rfl rfl)
theorem dX8_isSign_27 : decode cX8_isSign 27 = .ok (.if_icmp .eq 27, 3) := dk_159 0 27 (dk_at dksX8_isSign_1 3 rfl rfl)
theorem dX8_isSign_30 : decode cX8_isSign 30 = .ok (.iload_n 0, 1) := dk_26 (dk_at dksX8_isSign_1 6 rfl rfl)
theorem dX8_isSign_31 : decode cX8_isSign 31 = .ok (.bipush 42, 2) := dk_16 42 (dk_at dksX8_isSign_1 7 rfl rfl)
theorem dX8_isSign_33 : decode cX8_isSign 33 = .ok (.if_icmp .eq 21, 3) := dk_159 0 21 (dk_at dksX8_isSign_1 9 rfl rfl)
theorem dX8_isSign_36 : decode cX8_isSign 36 = .ok (.iload_n 0, 1) := dk_26 (dk_at dksX8_isSign_1 12 rfl rfl)
theorem dX8_isSign_37 : decode cX8_isSign 37 = .ok (.bipush 47, 2) := dk_16 47 (dk_at dksX8_isSign_1 13 rfl rfl)
theorem dX8_isSign_39 : decode cX8_isSign 39 = .ok (.if_icmp .eq 15, 3) := dk_159 0 15 (dk_at dksX8_isSign_1 15 rfl rfl)
theorem dX8_isSign_42 : decode cX8_isSign 42 = .ok (.iload_n 0, 1) := dk_26 (dk_at dksX8_isSign_1 18 rfl rfl)
theorem dX8_isSign_43 : decode cX8_isSign 43 = .ok (.bipush 60, 2) := dk_16 60 (dk_at dksX8_isSign_1 19 rfl rfl)
theorem dX8_isSign_45 : decode cX8_isSign 45 = .ok (.if_icmp .eq 9, 3) := dk_159 0 9 (dk_at dksX8_isSign_1 21 rfl rfl)
theorem dX8_isSign_48 : decode cX8_isSign 48 = .ok (.iload_n 0, 1) := dk_26 (dk_at dksX8_isSign_2 0 rfl rfl)
theorem dX8_isSign_49 : decode cX8_isSign 49 = .ok (.bipush 61, 2) := dk_16 61 (dk_at dksX8_isSign_2 1 rfl rfl)
theorem dX8_isSign_51 : decode cX8_isSign 51 = .ok (.if_icmp .ne 7, 3) := dk_160 0 7 (dk_at dksX8_isSign_2 3 rfl rfl)
theorem dX8_isSign_54 : decode cX8_isSign 54 = .ok (.iconst 1, 1) := dk_4 (dk_at dksX8_isSign_2 6 rfl rfl)
theorem dX8_isSign_55 : decode cX8_isSign 55 = .ok (.goto 4, 3) := dk_167 0 4 (dk_at dksX8_isSign_2 7 rfl rfl)
theorem dX8_isSign_58 : decode cX8_isSign 58 = .ok (.iconst 0, 1) := dk_3 (dk_at dksX8_isSign_2 10 rfl rfl)
theorem dX8_isSign_59 : decode cX8_isSign 59 = .ok (.ireturn, 1) := dk_172 (dk_at dksX8_isSign_2 11 rfl rfl)
abbrev cX8_town : ByteArray := prog_11_method_12_code
def yX8_town : MethodName := ⟨RX8, "town", "()LTableTower$Town;"⟩
def dkwX8_town_7 : List UInt8 := [182, 0, 164, 182, 0, 168, 87, 42, 18, 171, 182, 0, 173, 167, 255, 89, 43, 176]
abbrev dktX8_town_7 : List UInt8 := dkwX8_town_7 ++ []
def dkwX8_town_6 : List UInt8 := [182, 0, 160, 16, 10, 162, 0, 7, 4, 167, 0, 4, 3, 5, 182, 0, 116, 43, 180, 0, 156, 42]
abbrev dktX8_town_6 : List UInt8 := dkwX8_town_6 ++ dktX8_town_7
def dkwX8_town_5 : List UInt8 := [42, 18, 154, 182, 0, 112, 153, 0, 7, 4, 167, 0, 4, 3, 4, 182, 0, 116, 42, 43, 180, 0, 156]
abbrev dktX8_town_5 : List UInt8 := dkwX8_town_5 ++ dktX8_town_6
def dkwX8_town_4 : List UInt8 := [182, 0, 112, 154, 0, 30, 42, 18, 150, 182, 0, 112, 154, 0, 21, 42, 18, 152, 182, 0, 112, 154, 0, 12]
abbrev dktX8_town_4 : List UInt8 := dkwX8_town_4 ++ dktX8_town_5
def dkwX8_town_3 : List UInt8 := [5, 182, 0, 125, 153, 0, 15, 43, 42, 3, 182, 0, 141, 181, 0, 145, 167, 0, 83, 42, 42, 18, 148]
abbrev dktX8_town_3 : List UInt8 := dkwX8_town_3 ++ dktX8_town_4
def dkwX8_town_2 : List UInt8 := [182, 0, 125, 153, 0, 18, 43, 42, 3, 17, 3, 231, 182, 0, 129, 181, 0, 137, 167, 0, 105, 42, 18, 139]
abbrev dktX8_town_2 : List UInt8 := dkwX8_town_2 ++ dktX8_town_3
def dkwX8_town_1 : List UInt8 := [182, 0, 125, 153, 0, 17, 43, 42, 3, 16, 40, 182, 0, 129, 181, 0, 133, 167, 0, 130, 42, 18, 135, 4]
abbrev dktX8_town_1 : List UInt8 := dkwX8_town_1 ++ dktX8_town_2
def dkwX8_town_0 : List UInt8 := [187, 0, 120, 89, 183, 0, 122, 76, 42, 180, 0, 52, 178, 0, 46, 165, 0, 163, 42, 18, 123, 3]
abbrev dktX8_town_0 : List UInt8 := dkwX8_town_0 ++ dktX8_town_1
theorem dksX8_town_0 : cX8_town.data.toList.drop 0 = dktX8_town_0 := by decide +kernel
theorem dksX8_town_1 : cX8_town.data.toList.drop 22 = dktX8_town_1 := dk_seg dksX8_town_0 22 rfl rfl
theorem dksX8_town_2 : cX8_town.data.toList.drop 46 = dktX8_town_2 := dk_seg dksX8_town_1 24 rfl rfl
theorem dksX8_town_3 : cX8_town.data.toList.drop 70 = dktX8_town_3 := dk_seg dksX8_town_2 24 rfl rfl
theorem dksX8_town_4 : cX8_town.data.toList.drop 93 = dktX8_town_4 := dk_seg dksX8_town_3 23 rfl rfl
theorem dksX8_town_5 : cX8_town.data.toList.drop 117 = dktX8_town_5 := dk_seg dksX8_town_4 24 rfl rfl
theorem dksX8_town_6 : cX8_town.data.toList.drop 140 = dktX8_town_6 := dk_seg dksX8_town_5 23 rfl rfl
theorem dksX8_town_7 : cX8_town.data.toList.drop 162 = dktX8_town_7 := dk_seg dksX8_town_6 22 rfl rfl
theorem dX8_town_0 : decode cX8_town 0 = .ok (.new 120, 3) := dk_187 0 120 (dk_at dksX8_town_0 0 rfl rfl)
theorem dX8_town_3 : decode cX8_town 3 = .ok (.dup, 1) := dk_89 (dk_at dksX8_town_0 3 rfl rfl)
theorem dX8_town_4 : decode cX8_town 4 = .ok (.invokespecial 122, 3) := dk_183 0 122 (dk_at dksX8_town_0 4 rfl rfl)
theorem dX8_town_7 : decode cX8_town 7 = .ok (.astore_n 1, 1) := dk_76 (dk_at dksX8_town_0 7 rfl rfl)
theorem dX8_town_8 : decode cX8_town 8 = .ok (.aload_n 0, 1) := dk_42 (dk_at dksX8_town_0 8 rfl rfl)
theorem dX8_town_9 : decode cX8_town 9 = .ok (.getfield 52, 3) := dk_180 0 52 (dk_at dksX8_town_0 9 rfl rfl)
theorem dX8_town_12 : decode cX8_town 12 = .ok (.getstatic 46, 3) := dk_178 0 46 (dk_at dksX8_town_0 12 rfl rfl)
theorem dX8_town_15 : decode cX8_town 15 = .ok (.if_acmp .eq 163, 3) := dk_165 0 163 (dk_at dksX8_town_0 15 rfl rfl)
theorem dX8_town_18 : decode cX8_town 18 = .ok (.aload_n 0, 1) := dk_42 (dk_at dksX8_town_0 18 rfl rfl)
theorem dX8_town_19 : decode cX8_town 19 = .ok (.ldc 123, 2) := dk_18 123 (dk_at dksX8_town_0 19 rfl rfl)
theorem dX8_town_21 : decode cX8_town 21 = .ok (.iconst 0, 1) := dk_3 (dk_at dksX8_town_0 21 rfl rfl)
theorem dX8_town_22 : decode cX8_town 22 = .ok (.invokevirtual 125, 3) := dk_182 0 125 (dk_at dksX8_town_1 0 rfl rfl)
theorem dX8_town_25 : decode cX8_town 25 = .ok (.ifCond .eq 17, 3) := dk_153 0 17 (dk_at dksX8_town_1 3 rfl rfl)
theorem dX8_town_28 : decode cX8_town 28 = .ok (.aload_n 1, 1) := dk_43 (dk_at dksX8_town_1 6 rfl rfl)
theorem dX8_town_29 : decode cX8_town 29 = .ok (.aload_n 0, 1) := dk_42 (dk_at dksX8_town_1 7 rfl rfl)
theorem dX8_town_30 : decode cX8_town 30 = .ok (.iconst 0, 1) := dk_3 (dk_at dksX8_town_1 8 rfl rfl)
theorem dX8_town_31 : decode cX8_town 31 = .ok (.bipush 40, 2) := dk_16 40 (dk_at dksX8_town_1 9 rfl rfl)
theorem dX8_town_33 : decode cX8_town 33 = .ok (.invokevirtual 129, 3) := dk_182 0 129 (dk_at dksX8_town_1 11 rfl rfl)
theorem dX8_town_36 : decode cX8_town 36 = .ok (.putfield 133, 3) := dk_181 0 133 (dk_at dksX8_town_1 14 rfl rfl)
theorem dX8_town_39 : decode cX8_town 39 = .ok (.goto 130, 3) := dk_167 0 130 (dk_at dksX8_town_1 17 rfl rfl)
theorem dX8_town_42 : decode cX8_town 42 = .ok (.aload_n 0, 1) := dk_42 (dk_at dksX8_town_1 20 rfl rfl)
theorem dX8_town_43 : decode cX8_town 43 = .ok (.ldc 135, 2) := dk_18 135 (dk_at dksX8_town_1 21 rfl rfl)
theorem dX8_town_45 : decode cX8_town 45 = .ok (.iconst 1, 1) := dk_4 (dk_at dksX8_town_1 23 rfl rfl)
theorem dX8_town_46 : decode cX8_town 46 = .ok (.invokevirtual 125, 3) := dk_182 0 125 (dk_at dksX8_town_2 0 rfl rfl)
theorem dX8_town_49 : decode cX8_town 49 = .ok (.ifCond .eq 18, 3) := dk_153 0 18 (dk_at dksX8_town_2 3 rfl rfl)
theorem dX8_town_52 : decode cX8_town 52 = .ok (.aload_n 1, 1) := dk_43 (dk_at dksX8_town_2 6 rfl rfl)
theorem dX8_town_53 : decode cX8_town 53 = .ok (.aload_n 0, 1) := dk_42 (dk_at dksX8_town_2 7 rfl rfl)
theorem dX8_town_54 : decode cX8_town 54 = .ok (.iconst 0, 1) := dk_3 (dk_at dksX8_town_2 8 rfl rfl)
theorem dX8_town_55 : decode cX8_town 55 = .ok (.sipush 999, 3) := dk_17 3 231 (dk_at dksX8_town_2 9 rfl rfl)
theorem dX8_town_58 : decode cX8_town 58 = .ok (.invokevirtual 129, 3) := dk_182 0 129 (dk_at dksX8_town_2 12 rfl rfl)
theorem dX8_town_61 : decode cX8_town 61 = .ok (.putfield 137, 3) := dk_181 0 137 (dk_at dksX8_town_2 15 rfl rfl)
theorem dX8_town_64 : decode cX8_town 64 = .ok (.goto 105, 3) := dk_167 0 105 (dk_at dksX8_town_2 18 rfl rfl)
theorem dX8_town_67 : decode cX8_town 67 = .ok (.aload_n 0, 1) := dk_42 (dk_at dksX8_town_2 21 rfl rfl)
theorem dX8_town_68 : decode cX8_town 68 = .ok (.ldc 139, 2) := dk_18 139 (dk_at dksX8_town_2 22 rfl rfl)
theorem dX8_town_70 : decode cX8_town 70 = .ok (.iconst 2, 1) := dk_5 (dk_at dksX8_town_3 0 rfl rfl)
theorem dX8_town_71 : decode cX8_town 71 = .ok (.invokevirtual 125, 3) := dk_182 0 125 (dk_at dksX8_town_3 1 rfl rfl)
theorem dX8_town_74 : decode cX8_town 74 = .ok (.ifCond .eq 15, 3) := dk_153 0 15 (dk_at dksX8_town_3 4 rfl rfl)
theorem dX8_town_77 : decode cX8_town 77 = .ok (.aload_n 1, 1) := dk_43 (dk_at dksX8_town_3 7 rfl rfl)
theorem dX8_town_78 : decode cX8_town 78 = .ok (.aload_n 0, 1) := dk_42 (dk_at dksX8_town_3 8 rfl rfl)
theorem dX8_town_79 : decode cX8_town 79 = .ok (.iconst 0, 1) := dk_3 (dk_at dksX8_town_3 9 rfl rfl)
theorem dX8_town_80 : decode cX8_town 80 = .ok (.invokevirtual 141, 3) := dk_182 0 141 (dk_at dksX8_town_3 10 rfl rfl)
theorem dX8_town_83 : decode cX8_town 83 = .ok (.putfield 145, 3) := dk_181 0 145 (dk_at dksX8_town_3 13 rfl rfl)
theorem dX8_town_86 : decode cX8_town 86 = .ok (.goto 83, 3) := dk_167 0 83 (dk_at dksX8_town_3 16 rfl rfl)
theorem dX8_town_89 : decode cX8_town 89 = .ok (.aload_n 0, 1) := dk_42 (dk_at dksX8_town_3 19 rfl rfl)
theorem dX8_town_90 : decode cX8_town 90 = .ok (.aload_n 0, 1) := dk_42 (dk_at dksX8_town_3 20 rfl rfl)
theorem dX8_town_91 : decode cX8_town 91 = .ok (.ldc 148, 2) := dk_18 148 (dk_at dksX8_town_3 21 rfl rfl)
theorem dX8_town_93 : decode cX8_town 93 = .ok (.invokevirtual 112, 3) := dk_182 0 112 (dk_at dksX8_town_4 0 rfl rfl)
theorem dX8_town_96 : decode cX8_town 96 = .ok (.ifCond .ne 30, 3) := dk_154 0 30 (dk_at dksX8_town_4 3 rfl rfl)
theorem dX8_town_99 : decode cX8_town 99 = .ok (.aload_n 0, 1) := dk_42 (dk_at dksX8_town_4 6 rfl rfl)
theorem dX8_town_100 : decode cX8_town 100 = .ok (.ldc 150, 2) := dk_18 150 (dk_at dksX8_town_4 7 rfl rfl)
theorem dX8_town_102 : decode cX8_town 102 = .ok (.invokevirtual 112, 3) := dk_182 0 112 (dk_at dksX8_town_4 9 rfl rfl)
theorem dX8_town_105 : decode cX8_town 105 = .ok (.ifCond .ne 21, 3) := dk_154 0 21 (dk_at dksX8_town_4 12 rfl rfl)
theorem dX8_town_108 : decode cX8_town 108 = .ok (.aload_n 0, 1) := dk_42 (dk_at dksX8_town_4 15 rfl rfl)
theorem dX8_town_109 : decode cX8_town 109 = .ok (.ldc 152, 2) := dk_18 152 (dk_at dksX8_town_4 16 rfl rfl)
theorem dX8_town_111 : decode cX8_town 111 = .ok (.invokevirtual 112, 3) := dk_182 0 112 (dk_at dksX8_town_4 18 rfl rfl)
theorem dX8_town_114 : decode cX8_town 114 = .ok (.ifCond .ne 12, 3) := dk_154 0 12 (dk_at dksX8_town_4 21 rfl rfl)
theorem dX8_town_117 : decode cX8_town 117 = .ok (.aload_n 0, 1) := dk_42 (dk_at dksX8_town_5 0 rfl rfl)
theorem dX8_town_118 : decode cX8_town 118 = .ok (.ldc 154, 2) := dk_18 154 (dk_at dksX8_town_5 1 rfl rfl)
theorem dX8_town_120 : decode cX8_town 120 = .ok (.invokevirtual 112, 3) := dk_182 0 112 (dk_at dksX8_town_5 3 rfl rfl)
theorem dX8_town_123 : decode cX8_town 123 = .ok (.ifCond .eq 7, 3) := dk_153 0 7 (dk_at dksX8_town_5 6 rfl rfl)
theorem dX8_town_126 : decode cX8_town 126 = .ok (.iconst 1, 1) := dk_4 (dk_at dksX8_town_5 9 rfl rfl)
theorem dX8_town_127 : decode cX8_town 127 = .ok (.goto 4, 3) := dk_167 0 4 (dk_at dksX8_town_5 10 rfl rfl)
theorem dX8_town_130 : decode cX8_town 130 = .ok (.iconst 0, 1) := dk_3 (dk_at dksX8_town_5 13 rfl rfl)
theorem dX8_town_131 : decode cX8_town 131 = .ok (.iconst 1, 1) := dk_4 (dk_at dksX8_town_5 14 rfl rfl)
theorem dX8_town_132 : decode cX8_town 132 = .ok (.invokevirtual 116, 3) := dk_182 0 116 (dk_at dksX8_town_5 15 rfl rfl)
theorem dX8_town_135 : decode cX8_town 135 = .ok (.aload_n 0, 1) := dk_42 (dk_at dksX8_town_5 18 rfl rfl)
theorem dX8_town_136 : decode cX8_town 136 = .ok (.aload_n 1, 1) := dk_43 (dk_at dksX8_town_5 19 rfl rfl)
theorem dX8_town_137 : decode cX8_town 137 = .ok (.getfield 156, 3) := dk_180 0 156 (dk_at dksX8_town_5 20 rfl rfl)
theorem dX8_town_140 : decode cX8_town 140 = .ok (.invokevirtual 160, 3) := dk_182 0 160 (dk_at dksX8_town_6 0 rfl rfl)
theorem dX8_town_143 : decode cX8_town 143 = .ok (.bipush 10, 2) := dk_16 10 (dk_at dksX8_town_6 3 rfl rfl)
theorem dX8_town_145 : decode cX8_town 145 = .ok (.if_icmp .ge 7, 3) := dk_162 0 7 (dk_at dksX8_town_6 5 rfl rfl)
theorem dX8_town_148 : decode cX8_town 148 = .ok (.iconst 1, 1) := dk_4 (dk_at dksX8_town_6 8 rfl rfl)
theorem dX8_town_149 : decode cX8_town 149 = .ok (.goto 4, 3) := dk_167 0 4 (dk_at dksX8_town_6 9 rfl rfl)
theorem dX8_town_152 : decode cX8_town 152 = .ok (.iconst 0, 1) := dk_3 (dk_at dksX8_town_6 12 rfl rfl)
theorem dX8_town_153 : decode cX8_town 153 = .ok (.iconst 2, 1) := dk_5 (dk_at dksX8_town_6 13 rfl rfl)
theorem dX8_town_154 : decode cX8_town 154 = .ok (.invokevirtual 116, 3) := dk_182 0 116 (dk_at dksX8_town_6 14 rfl rfl)
theorem dX8_town_157 : decode cX8_town 157 = .ok (.aload_n 1, 1) := dk_43 (dk_at dksX8_town_6 17 rfl rfl)
theorem dX8_town_158 : decode cX8_town 158 = .ok (.getfield 156, 3) := dk_180 0 156 (dk_at dksX8_town_6 18 rfl rfl)
theorem dX8_town_161 : decode cX8_town 161 = .ok (.aload_n 0, 1) := dk_42 (dk_at dksX8_town_6 21 rfl rfl)
theorem dX8_town_162 : decode cX8_town 162 = .ok (.invokevirtual 164, 3) := dk_182 0 164 (dk_at dksX8_town_7 0 rfl rfl)
theorem dX8_town_165 : decode cX8_town 165 = .ok (.invokevirtual 168, 3) := dk_182 0 168 (dk_at dksX8_town_7 3 rfl rfl)
theorem dX8_town_168 : decode cX8_town 168 = .ok (.pop, 1) := dk_87 (dk_at dksX8_town_7 6 rfl rfl)
theorem dX8_town_169 : decode cX8_town 169 = .ok (.aload_n 0, 1) := dk_42 (dk_at dksX8_town_7 7 rfl rfl)
theorem dX8_town_170 : decode cX8_town 170 = .ok (.ldc 171, 2) := dk_18 171 (dk_at dksX8_town_7 8 rfl rfl)
theorem dX8_town_172 : decode cX8_town 172 = .ok (.invokevirtual 173, 3) := dk_182 0 173 (dk_at dksX8_town_7 10 rfl rfl)
theorem dX8_town_175 : decode cX8_town 175 = .ok (.goto (-167), 3) := dk_167 255 89 (dk_at dksX8_town_7 13 rfl rfl)
theorem dX8_town_178 : decode cX8_town 178 = .ok (.aload_n 1, 1) := dk_43 (dk_at dksX8_town_7 16 rfl rfl)
theorem dX8_town_179 : decode cX8_town 179 = .ok (.areturn, 1) := dk_176 (dk_at dksX8_town_7 17 rfl rfl)
abbrev cX8_begins : ByteArray := prog_11_method_11_code
def yX8_begins : MethodName := ⟨RX8, "begins", "(Ljava/lang/String;I)Z"⟩
def dkwX8_begins_1 : List UInt8 := [3, 7, 182, 0, 116, 42, 180, 0, 17, 28, 4, 84, 42, 182, 0, 29, 4, 172]
abbrev dktX8_begins_1 : List UInt8 := dkwX8_begins_1 ++ []
def dkwX8_begins_0 : List UInt8 := [42, 43, 182, 0, 112, 154, 0, 5, 3, 172, 42, 42, 180, 0, 17, 28, 51, 154, 0, 7, 4, 167, 0, 4]
abbrev dktX8_begins_0 : List UInt8 := dkwX8_begins_0 ++ dktX8_begins_1
theorem dksX8_begins_0 : cX8_begins.data.toList.drop 0 = dktX8_begins_0 := by decide +kernel
theorem dksX8_begins_1 : cX8_begins.data.toList.drop 24 = dktX8_begins_1 := dk_seg dksX8_begins_0 24 rfl rfl
theorem dX8_begins_0 : decode cX8_begins 0 = .ok (.aload_n 0, 1) := dk_42 (dk_at dksX8_begins_0 0 rfl rfl)
theorem dX8_begins_1 : decode cX8_begins 1 = .ok (.aload_n 1, 1) := dk_43 (dk_at dksX8_begins_0 1 rfl rfl)
theorem dX8_begins_2 : decode cX8_begins 2 = .ok (.invokevirtual 112, 3) := dk_182 0 112 (dk_at dksX8_begins_0 2 rfl rfl)
theorem dX8_begins_5 : decode cX8_begins 5 = .ok (.ifCond .ne 5, 3) := dk_154 0 5 (dk_at dksX8_begins_0 5 rfl rfl)
theorem dX8_begins_8 : decode cX8_begins 8 = .ok (.iconst 0, 1) := dk_3 (dk_at dksX8_begins_0 8 rfl rfl)
theorem dX8_begins_9 : decode cX8_begins 9 = .ok (.ireturn, 1) := dk_172 (dk_at dksX8_begins_0 9 rfl rfl)
theorem dX8_begins_10 : decode cX8_begins 10 = .ok (.aload_n 0, 1) := dk_42 (dk_at dksX8_begins_0 10 rfl rfl)
theorem dX8_begins_11 : decode cX8_begins 11 = .ok (.aload_n 0, 1) := dk_42 (dk_at dksX8_begins_0 11 rfl rfl)
theorem dX8_begins_12 : decode cX8_begins 12 = .ok (.getfield 17, 3) := dk_180 0 17 (dk_at dksX8_begins_0 12 rfl rfl)
theorem dX8_begins_15 : decode cX8_begins 15 = .ok (.iload_n 2, 1) := dk_28 (dk_at dksX8_begins_0 15 rfl rfl)
theorem dX8_begins_16 : decode cX8_begins 16 = .ok (.baload, 1) := dk_51 (dk_at dksX8_begins_0 16 rfl rfl)
theorem dX8_begins_17 : decode cX8_begins 17 = .ok (.ifCond .ne 7, 3) := dk_154 0 7 (dk_at dksX8_begins_0 17 rfl rfl)
theorem dX8_begins_20 : decode cX8_begins 20 = .ok (.iconst 1, 1) := dk_4 (dk_at dksX8_begins_0 20 rfl rfl)
theorem dX8_begins_21 : decode cX8_begins 21 = .ok (.goto 4, 3) := dk_167 0 4 (dk_at dksX8_begins_0 21 rfl rfl)
theorem dX8_begins_24 : decode cX8_begins 24 = .ok (.iconst 0, 1) := dk_3 (dk_at dksX8_begins_1 0 rfl rfl)
theorem dX8_begins_25 : decode cX8_begins 25 = .ok (.iconst 4, 1) := dk_7 (dk_at dksX8_begins_1 1 rfl rfl)
theorem dX8_begins_26 : decode cX8_begins 26 = .ok (.invokevirtual 116, 3) := dk_182 0 116 (dk_at dksX8_begins_1 2 rfl rfl)
theorem dX8_begins_29 : decode cX8_begins 29 = .ok (.aload_n 0, 1) := dk_42 (dk_at dksX8_begins_1 5 rfl rfl)
theorem dX8_begins_30 : decode cX8_begins 30 = .ok (.getfield 17, 3) := dk_180 0 17 (dk_at dksX8_begins_1 6 rfl rfl)
theorem dX8_begins_33 : decode cX8_begins 33 = .ok (.iload_n 2, 1) := dk_28 (dk_at dksX8_begins_1 9 rfl rfl)
theorem dX8_begins_34 : decode cX8_begins 34 = .ok (.iconst 1, 1) := dk_4 (dk_at dksX8_begins_1 10 rfl rfl)
theorem dX8_begins_35 : decode cX8_begins 35 = .ok (.bastore, 1) := dk_84 (dk_at dksX8_begins_1 11 rfl rfl)
theorem dX8_begins_36 : decode cX8_begins 36 = .ok (.aload_n 0, 1) := dk_42 (dk_at dksX8_begins_1 12 rfl rfl)
theorem dX8_begins_37 : decode cX8_begins 37 = .ok (.invokevirtual 29, 3) := dk_182 0 29 (dk_at dksX8_begins_1 13 rfl rfl)
theorem dX8_begins_40 : decode cX8_begins 40 = .ok (.iconst 1, 1) := dk_4 (dk_at dksX8_begins_1 16 rfl rfl)
theorem dX8_begins_41 : decode cX8_begins 41 = .ok (.ireturn, 1) := dk_172 (dk_at dksX8_begins_1 17 rfl rfl)
abbrev cX8_is : ByteArray := prog_11_method_7_code
def yX8_is : MethodName := ⟨RX8, "is", "(Ljava/lang/String;)Z"⟩
def dkwX8_is_1 : List UInt8 := [43, 182, 0, 103, 153, 0, 7, 4, 167, 0, 4, 3, 172]
abbrev dktX8_is_1 : List UInt8 := dkwX8_is_1 ++ []
def dkwX8_is_0 : List UInt8 := [42, 180, 0, 52, 178, 0, 76, 165, 0, 13, 42, 180, 0, 52, 178, 0, 91, 166, 0, 18, 42, 180, 0, 11]
abbrev dktX8_is_0 : List UInt8 := dkwX8_is_0 ++ dktX8_is_1
theorem dksX8_is_0 : cX8_is.data.toList.drop 0 = dktX8_is_0 := by decide +kernel
theorem dksX8_is_1 : cX8_is.data.toList.drop 24 = dktX8_is_1 := dk_seg dksX8_is_0 24 rfl rfl
theorem dX8_is_0 : decode cX8_is 0 = .ok (.aload_n 0, 1) := dk_42 (dk_at dksX8_is_0 0 rfl rfl)
theorem dX8_is_1 : decode cX8_is 1 = .ok (.getfield 52, 3) := dk_180 0 52 (dk_at dksX8_is_0 1 rfl rfl)
theorem dX8_is_4 : decode cX8_is 4 = .ok (.getstatic 76, 3) := dk_178 0 76 (dk_at dksX8_is_0 4 rfl rfl)
theorem dX8_is_7 : decode cX8_is 7 = .ok (.if_acmp .eq 13, 3) := dk_165 0 13 (dk_at dksX8_is_0 7 rfl rfl)
theorem dX8_is_10 : decode cX8_is 10 = .ok (.aload_n 0, 1) := dk_42 (dk_at dksX8_is_0 10 rfl rfl)
theorem dX8_is_11 : decode cX8_is 11 = .ok (.getfield 52, 3) := dk_180 0 52 (dk_at dksX8_is_0 11 rfl rfl)
theorem dX8_is_14 : decode cX8_is 14 = .ok (.getstatic 91, 3) := dk_178 0 91 (dk_at dksX8_is_0 14 rfl rfl)
theorem dX8_is_17 : decode cX8_is 17 = .ok (.if_acmp .ne 18, 3) := dk_166 0 18 (dk_at dksX8_is_0 17 rfl rfl)
theorem dX8_is_20 : decode cX8_is 20 = .ok (.aload_n 0, 1) := dk_42 (dk_at dksX8_is_0 20 rfl rfl)
theorem dX8_is_21 : decode cX8_is 21 = .ok (.getfield 11, 3) := dk_180 0 11 (dk_at dksX8_is_0 21 rfl rfl)
theorem dX8_is_24 : decode cX8_is 24 = .ok (.aload_n 1, 1) := dk_43 (dk_at dksX8_is_1 0 rfl rfl)
theorem dX8_is_25 : decode cX8_is 25 = .ok (.invokevirtual 103, 3) := dk_182 0 103 (dk_at dksX8_is_1 1 rfl rfl)
theorem dX8_is_28 : decode cX8_is 28 = .ok (.ifCond .eq 7, 3) := dk_153 0 7 (dk_at dksX8_is_1 4 rfl rfl)
theorem dX8_is_31 : decode cX8_is 31 = .ok (.iconst 1, 1) := dk_4 (dk_at dksX8_is_1 7 rfl rfl)
theorem dX8_is_32 : decode cX8_is 32 = .ok (.goto 4, 3) := dk_167 0 4 (dk_at dksX8_is_1 8 rfl rfl)
theorem dX8_is_35 : decode cX8_is 35 = .ok (.iconst 0, 1) := dk_3 (dk_at dksX8_is_1 11 rfl rfl)
theorem dX8_is_36 : decode cX8_is 36 = .ok (.ireturn, 1) := dk_172 (dk_at dksX8_is_1 12 rfl rfl)
abbrev cX8_check : ByteArray := prog_11_method_8_code
def yX8_check : MethodName := ⟨RX8, "check", "(ZI)V"⟩
def dkwX8_check_0 : List UInt8 := [27, 154, 0, 16, 187, 0, 107, 89, 28, 42, 180, 0, 39, 183, 0, 109, 191, 177]
abbrev dktX8_check_0 : List UInt8 := dkwX8_check_0 ++ []
theorem dksX8_check_0 : cX8_check.data.toList.drop 0 = dktX8_check_0 := by decide +kernel
theorem dX8_check_0 : decode cX8_check 0 = .ok (.iload_n 1, 1) := dk_27 (dk_at dksX8_check_0 0 rfl rfl)
theorem dX8_check_1 : decode cX8_check 1 = .ok (.ifCond .ne 16, 3) := dk_154 0 16 (dk_at dksX8_check_0 1 rfl rfl)
theorem dX8_check_4 : decode cX8_check 4 = .ok (.new 107, 3) := dk_187 0 107 (dk_at dksX8_check_0 4 rfl rfl)
theorem dX8_check_7 : decode cX8_check 7 = .ok (.dup, 1) := dk_89 (dk_at dksX8_check_0 7 rfl rfl)
theorem dX8_check_8 : decode cX8_check 8 = .ok (.iload_n 2, 1) := dk_28 (dk_at dksX8_check_0 8 rfl rfl)
theorem dX8_check_9 : decode cX8_check 9 = .ok (.aload_n 0, 1) := dk_42 (dk_at dksX8_check_0 9 rfl rfl)
theorem dX8_check_10 : decode cX8_check 10 = .ok (.getfield 39, 3) := dk_180 0 39 (dk_at dksX8_check_0 10 rfl rfl)
theorem dX8_check_13 : decode cX8_check 13 = .ok (.invokespecial 109, 3) := dk_183 0 109 (dk_at dksX8_check_0 13 rfl rfl)
theorem dX8_check_16 : decode cX8_check 16 = .ok (.athrow, 1) := dk_191 (dk_at dksX8_check_0 16 rfl rfl)
theorem dX8_check_17 : decode cX8_check 17 = .ok (.return_, 1) := dk_177 (dk_at dksX8_check_0 17 rfl rfl)
abbrev cX8_number : ByteArray := prog_11_method_10_code
def yX8_number : MethodName := ⟨RX8, "number", "(II)I"⟩
def dkwX8_number_2 : List UInt8 := [167, 0, 4, 3, 5, 182, 0, 116, 42, 180, 0, 82, 62, 42, 182, 0, 29, 29, 172]
abbrev dktX8_number_2 : List UInt8 := dkwX8_number_2 ++ []
def dkwX8_number_1 : List UInt8 := [180, 0, 42, 154, 0, 23, 42, 180, 0, 82, 27, 161, 0, 15, 42, 180, 0, 82, 28, 163, 0, 7, 4]
abbrev dktX8_number_1 : List UInt8 := dkwX8_number_1 ++ dktX8_number_2
def dkwX8_number_0 : List UInt8 := [42, 42, 180, 0, 52, 178, 0, 85, 166, 0, 7, 4, 167, 0, 4, 3, 4, 182, 0, 116, 42, 42]
abbrev dktX8_number_0 : List UInt8 := dkwX8_number_0 ++ dktX8_number_1
theorem dksX8_number_0 : cX8_number.data.toList.drop 0 = dktX8_number_0 := by decide +kernel
theorem dksX8_number_1 : cX8_number.data.toList.drop 22 = dktX8_number_1 := dk_seg dksX8_number_0 22 rfl rfl
theorem dksX8_number_2 : cX8_number.data.toList.drop 45 = dktX8_number_2 := dk_seg dksX8_number_1 23 rfl rfl
theorem dX8_number_0 : decode cX8_number 0 = .ok (.aload_n 0, 1) := dk_42 (dk_at dksX8_number_0 0 rfl rfl)
theorem dX8_number_1 : decode cX8_number 1 = .ok (.aload_n 0, 1) := dk_42 (dk_at dksX8_number_0 1 rfl rfl)
theorem dX8_number_2 : decode cX8_number 2 = .ok (.getfield 52, 3) := dk_180 0 52 (dk_at dksX8_number_0 2 rfl rfl)
theorem dX8_number_5 : decode cX8_number 5 = .ok (.getstatic 85, 3) := dk_178 0 85 (dk_at dksX8_number_0 5 rfl rfl)
theorem dX8_number_8 : decode cX8_number 8 = .ok (.if_acmp .ne 7, 3) := dk_166 0 7 (dk_at dksX8_number_0 8 rfl rfl)
theorem dX8_number_11 : decode cX8_number 11 = .ok (.iconst 1, 1) := dk_4 (dk_at dksX8_number_0 11 rfl rfl)
theorem dX8_number_12 : decode cX8_number 12 = .ok (.goto 4, 3) := dk_167 0 4 (dk_at dksX8_number_0 12 rfl rfl)
theorem dX8_number_15 : decode cX8_number 15 = .ok (.iconst 0, 1) := dk_3 (dk_at dksX8_number_0 15 rfl rfl)
theorem dX8_number_16 : decode cX8_number 16 = .ok (.iconst 1, 1) := dk_4 (dk_at dksX8_number_0 16 rfl rfl)
theorem dX8_number_17 : decode cX8_number 17 = .ok (.invokevirtual 116, 3) := dk_182 0 116 (dk_at dksX8_number_0 17 rfl rfl)
theorem dX8_number_20 : decode cX8_number 20 = .ok (.aload_n 0, 1) := dk_42 (dk_at dksX8_number_0 20 rfl rfl)
theorem dX8_number_21 : decode cX8_number 21 = .ok (.aload_n 0, 1) := dk_42 (dk_at dksX8_number_0 21 rfl rfl)
theorem dX8_number_22 : decode cX8_number 22 = .ok (.getfield 42, 3) := dk_180 0 42 (dk_at dksX8_number_1 0 rfl rfl)
theorem dX8_number_25 : decode cX8_number 25 = .ok (.ifCond .ne 23, 3) := dk_154 0 23 (dk_at dksX8_number_1 3 rfl rfl)
theorem dX8_number_28 : decode cX8_number 28 = .ok (.aload_n 0, 1) := dk_42 (dk_at dksX8_number_1 6 rfl rfl)
theorem dX8_number_29 : decode cX8_number 29 = .ok (.getfield 82, 3) := dk_180 0 82 (dk_at dksX8_number_1 7 rfl rfl)
theorem dX8_number_32 : decode cX8_number 32 = .ok (.iload_n 1, 1) := dk_27 (dk_at dksX8_number_1 10 rfl rfl)
theorem dX8_number_33 : decode cX8_number 33 = .ok (.if_icmp .lt 15, 3) := dk_161 0 15 (dk_at dksX8_number_1 11 rfl rfl)
theorem dX8_number_36 : decode cX8_number 36 = .ok (.aload_n 0, 1) := dk_42 (dk_at dksX8_number_1 14 rfl rfl)
theorem dX8_number_37 : decode cX8_number 37 = .ok (.getfield 82, 3) := dk_180 0 82 (dk_at dksX8_number_1 15 rfl rfl)
theorem dX8_number_40 : decode cX8_number 40 = .ok (.iload_n 2, 1) := dk_28 (dk_at dksX8_number_1 18 rfl rfl)
theorem dX8_number_41 : decode cX8_number 41 = .ok (.if_icmp .gt 7, 3) := dk_163 0 7 (dk_at dksX8_number_1 19 rfl rfl)
theorem dX8_number_44 : decode cX8_number 44 = .ok (.iconst 1, 1) := dk_4 (dk_at dksX8_number_1 22 rfl rfl)
theorem dX8_number_45 : decode cX8_number 45 = .ok (.goto 4, 3) := dk_167 0 4 (dk_at dksX8_number_2 0 rfl rfl)
theorem dX8_number_48 : decode cX8_number 48 = .ok (.iconst 0, 1) := dk_3 (dk_at dksX8_number_2 3 rfl rfl)
theorem dX8_number_49 : decode cX8_number 49 = .ok (.iconst 2, 1) := dk_5 (dk_at dksX8_number_2 4 rfl rfl)
theorem dX8_number_50 : decode cX8_number 50 = .ok (.invokevirtual 116, 3) := dk_182 0 116 (dk_at dksX8_number_2 5 rfl rfl)
theorem dX8_number_53 : decode cX8_number 53 = .ok (.aload_n 0, 1) := dk_42 (dk_at dksX8_number_2 8 rfl rfl)
theorem dX8_number_54 : decode cX8_number 54 = .ok (.getfield 82, 3) := dk_180 0 82 (dk_at dksX8_number_2 9 rfl rfl)
theorem dX8_number_57 : decode cX8_number 57 = .ok (.istore_n 3, 1) := dk_62 (dk_at dksX8_number_2 12 rfl rfl)
theorem dX8_number_58 : decode cX8_number 58 = .ok (.aload_n 0, 1) := dk_42 (dk_at dksX8_number_2 13 rfl rfl)
theorem dX8_number_59 : decode cX8_number 59 = .ok (.invokevirtual 29, 3) := dk_182 0 29 (dk_at dksX8_number_2 14 rfl rfl)
theorem dX8_number_62 : decode cX8_number 62 = .ok (.iload_n 3, 1) := dk_29 (dk_at dksX8_number_2 17 rfl rfl)
theorem dX8_number_63 : decode cX8_number 63 = .ok (.ireturn, 1) := dk_172 (dk_at dksX8_number_2 18 rfl rfl)
abbrev cX8_expr : ByteArray := prog_11_method_14_code
def yX8_expr : MethodName := ⟨RX8, "expr", "(I)LTableTower$Expr;"⟩
def dkwX8_expr_3 : List UInt8 := [42, 27, 182, 0, 195, 183, 0, 202, 77, 167, 255, 227, 44, 176]
abbrev dktX8_expr_3 : List UInt8 := dkwX8_expr_3 ++ []
def dkwX8_expr_2 : List UInt8 := [182, 0, 195, 77, 42, 18, 198, 182, 0, 112, 153, 0, 26, 42, 182, 0, 29, 187, 0, 200, 89, 16, 124, 44]
abbrev dktX8_expr_2 : List UInt8 := dkwX8_expr_2 ++ dktX8_expr_3
def dkwX8_expr_1 : List UInt8 := [165, 0, 16, 42, 18, 193, 182, 0, 112, 154, 0, 7, 4, 167, 0, 4, 3, 5, 182, 0, 116, 42, 27]
abbrev dktX8_expr_1 : List UInt8 := dkwX8_expr_1 ++ dktX8_expr_2
def dkwX8_expr_0 : List UInt8 := [27, 16, 6, 161, 0, 42, 42, 42, 180, 0, 52, 178, 0, 85, 165, 0, 26, 42, 180, 0, 52, 178, 0, 76]
abbrev dktX8_expr_0 : List UInt8 := dkwX8_expr_0 ++ dktX8_expr_1
theorem dksX8_expr_0 : cX8_expr.data.toList.drop 0 = dktX8_expr_0 := by decide +kernel
theorem dksX8_expr_1 : cX8_expr.data.toList.drop 24 = dktX8_expr_1 := dk_seg dksX8_expr_0 24 rfl rfl
theorem dksX8_expr_2 : cX8_expr.data.toList.drop 47 = dktX8_expr_2 := dk_seg dksX8_expr_1 23 rfl rfl
theorem dksX8_expr_3 : cX8_expr.data.toList.drop 71 = dktX8_expr_3 := dk_seg dksX8_expr_2 24 rfl rfl
theorem dX8_expr_0 : decode cX8_expr 0 = .ok (.iload_n 1, 1) := dk_27 (dk_at dksX8_expr_0 0 rfl rfl)
theorem dX8_expr_1 : decode cX8_expr 1 = .ok (.bipush 6, 2) := dk_16 6 (dk_at dksX8_expr_0 1 rfl rfl)
theorem dX8_expr_3 : decode cX8_expr 3 = .ok (.if_icmp .lt 42, 3) := dk_161 0 42 (dk_at dksX8_expr_0 3 rfl rfl)
theorem dX8_expr_6 : decode cX8_expr 6 = .ok (.aload_n 0, 1) := dk_42 (dk_at dksX8_expr_0 6 rfl rfl)
theorem dX8_expr_7 : decode cX8_expr 7 = .ok (.aload_n 0, 1) := dk_42 (dk_at dksX8_expr_0 7 rfl rfl)
theorem dX8_expr_8 : decode cX8_expr 8 = .ok (.getfield 52, 3) := dk_180 0 52 (dk_at dksX8_expr_0 8 rfl rfl)
theorem dX8_expr_11 : decode cX8_expr 11 = .ok (.getstatic 85, 3) := dk_178 0 85 (dk_at dksX8_expr_0 11 rfl rfl)
theorem dX8_expr_14 : decode cX8_expr 14 = .ok (.if_acmp .eq 26, 3) := dk_165 0 26 (dk_at dksX8_expr_0 14 rfl rfl)
theorem dX8_expr_17 : decode cX8_expr 17 = .ok (.aload_n 0, 1) := dk_42 (dk_at dksX8_expr_0 17 rfl rfl)
theorem dX8_expr_18 : decode cX8_expr 18 = .ok (.getfield 52, 3) := dk_180 0 52 (dk_at dksX8_expr_0 18 rfl rfl)
theorem dX8_expr_21 : decode cX8_expr 21 = .ok (.getstatic 76, 3) := dk_178 0 76 (dk_at dksX8_expr_0 21 rfl rfl)
theorem dX8_expr_24 : decode cX8_expr 24 = .ok (.if_acmp .eq 16, 3) := dk_165 0 16 (dk_at dksX8_expr_1 0 rfl rfl)
theorem dX8_expr_27 : decode cX8_expr 27 = .ok (.aload_n 0, 1) := dk_42 (dk_at dksX8_expr_1 3 rfl rfl)
theorem dX8_expr_28 : decode cX8_expr 28 = .ok (.ldc 193, 2) := dk_18 193 (dk_at dksX8_expr_1 4 rfl rfl)
theorem dX8_expr_30 : decode cX8_expr 30 = .ok (.invokevirtual 112, 3) := dk_182 0 112 (dk_at dksX8_expr_1 6 rfl rfl)
theorem dX8_expr_33 : decode cX8_expr 33 = .ok (.ifCond .ne 7, 3) := dk_154 0 7 (dk_at dksX8_expr_1 9 rfl rfl)
theorem dX8_expr_36 : decode cX8_expr 36 = .ok (.iconst 1, 1) := dk_4 (dk_at dksX8_expr_1 12 rfl rfl)
theorem dX8_expr_37 : decode cX8_expr 37 = .ok (.goto 4, 3) := dk_167 0 4 (dk_at dksX8_expr_1 13 rfl rfl)
theorem dX8_expr_40 : decode cX8_expr 40 = .ok (.iconst 0, 1) := dk_3 (dk_at dksX8_expr_1 16 rfl rfl)
theorem dX8_expr_41 : decode cX8_expr 41 = .ok (.iconst 2, 1) := dk_5 (dk_at dksX8_expr_1 17 rfl rfl)
theorem dX8_expr_42 : decode cX8_expr 42 = .ok (.invokevirtual 116, 3) := dk_182 0 116 (dk_at dksX8_expr_1 18 rfl rfl)
theorem dX8_expr_45 : decode cX8_expr 45 = .ok (.aload_n 0, 1) := dk_42 (dk_at dksX8_expr_1 21 rfl rfl)
theorem dX8_expr_46 : decode cX8_expr 46 = .ok (.iload_n 1, 1) := dk_27 (dk_at dksX8_expr_1 22 rfl rfl)
theorem dX8_expr_47 : decode cX8_expr 47 = .ok (.invokevirtual 195, 3) := dk_182 0 195 (dk_at dksX8_expr_2 0 rfl rfl)
theorem dX8_expr_50 : decode cX8_expr 50 = .ok (.astore_n 2, 1) := dk_77 (dk_at dksX8_expr_2 3 rfl rfl)
theorem dX8_expr_51 : decode cX8_expr 51 = .ok (.aload_n 0, 1) := dk_42 (dk_at dksX8_expr_2 4 rfl rfl)
theorem dX8_expr_52 : decode cX8_expr 52 = .ok (.ldc 198, 2) := dk_18 198 (dk_at dksX8_expr_2 5 rfl rfl)
theorem dX8_expr_54 : decode cX8_expr 54 = .ok (.invokevirtual 112, 3) := dk_182 0 112 (dk_at dksX8_expr_2 7 rfl rfl)
theorem dX8_expr_57 : decode cX8_expr 57 = .ok (.ifCond .eq 26, 3) := dk_153 0 26 (dk_at dksX8_expr_2 10 rfl rfl)
theorem dX8_expr_60 : decode cX8_expr 60 = .ok (.aload_n 0, 1) := dk_42 (dk_at dksX8_expr_2 13 rfl rfl)
theorem dX8_expr_61 : decode cX8_expr 61 = .ok (.invokevirtual 29, 3) := dk_182 0 29 (dk_at dksX8_expr_2 14 rfl rfl)
theorem dX8_expr_64 : decode cX8_expr 64 = .ok (.new 200, 3) := dk_187 0 200 (dk_at dksX8_expr_2 17 rfl rfl)
theorem dX8_expr_67 : decode cX8_expr 67 = .ok (.dup, 1) := dk_89 (dk_at dksX8_expr_2 20 rfl rfl)
theorem dX8_expr_68 : decode cX8_expr 68 = .ok (.bipush 124, 2) := dk_16 124 (dk_at dksX8_expr_2 21 rfl rfl)
theorem dX8_expr_70 : decode cX8_expr 70 = .ok (.aload_n 2, 1) := dk_44 (dk_at dksX8_expr_2 23 rfl rfl)
theorem dX8_expr_71 : decode cX8_expr 71 = .ok (.aload_n 0, 1) := dk_42 (dk_at dksX8_expr_3 0 rfl rfl)
theorem dX8_expr_72 : decode cX8_expr 72 = .ok (.iload_n 1, 1) := dk_27 (dk_at dksX8_expr_3 1 rfl rfl)
theorem dX8_expr_73 : decode cX8_expr 73 = .ok (.invokevirtual 195, 3) := dk_182 0 195 (dk_at dksX8_expr_3 2 rfl rfl)
theorem dX8_expr_76 : decode cX8_expr 76 = .ok (.invokespecial 202, 3) := dk_183 0 202 (dk_at dksX8_expr_3 5 rfl rfl)
theorem dX8_expr_79 : decode cX8_expr 79 = .ok (.astore_n 2, 1) := dk_77 (dk_at dksX8_expr_3 8 rfl rfl)
theorem dX8_expr_80 : decode cX8_expr 80 = .ok (.goto (-29), 3) := dk_167 255 227 (dk_at dksX8_expr_3 9 rfl rfl)
theorem dX8_expr_83 : decode cX8_expr 83 = .ok (.aload_n 2, 1) := dk_44 (dk_at dksX8_expr_3 12 rfl rfl)
theorem dX8_expr_84 : decode cX8_expr 84 = .ok (.areturn, 1) := dk_176 (dk_at dksX8_expr_3 13 rfl rfl)
abbrev cX8_and : ByteArray := prog_11_method_15_code
def yX8_and : MethodName := ⟨RX8, "and", "(I)LTableTower$Expr;"⟩
def dkwX8_and_1 : List UInt8 := [16, 38, 44, 42, 27, 182, 0, 205, 183, 0, 202, 77, 167, 255, 227, 44, 176]
abbrev dktX8_and_1 : List UInt8 := dkwX8_and_1 ++ []
def dkwX8_and_0 : List UInt8 := [42, 27, 182, 0, 205, 77, 42, 18, 208, 182, 0, 112, 153, 0, 26, 42, 182, 0, 29, 187, 0, 200, 89]
abbrev dktX8_and_0 : List UInt8 := dkwX8_and_0 ++ dktX8_and_1
theorem dksX8_and_0 : cX8_and.data.toList.drop 0 = dktX8_and_0 := by decide +kernel
theorem dksX8_and_1 : cX8_and.data.toList.drop 23 = dktX8_and_1 := dk_seg dksX8_and_0 23 rfl rfl
theorem dX8_and_0 : decode cX8_and 0 = .ok (.aload_n 0, 1) := dk_42 (dk_at dksX8_and_0 0 rfl rfl)
theorem dX8_and_1 : decode cX8_and 1 = .ok (.iload_n 1, 1) := dk_27 (dk_at dksX8_and_0 1 rfl rfl)
theorem dX8_and_2 : decode cX8_and 2 = .ok (.invokevirtual 205, 3) := dk_182 0 205 (dk_at dksX8_and_0 2 rfl rfl)
theorem dX8_and_5 : decode cX8_and 5 = .ok (.astore_n 2, 1) := dk_77 (dk_at dksX8_and_0 5 rfl rfl)
theorem dX8_and_6 : decode cX8_and 6 = .ok (.aload_n 0, 1) := dk_42 (dk_at dksX8_and_0 6 rfl rfl)
theorem dX8_and_7 : decode cX8_and 7 = .ok (.ldc 208, 2) := dk_18 208 (dk_at dksX8_and_0 7 rfl rfl)
theorem dX8_and_9 : decode cX8_and 9 = .ok (.invokevirtual 112, 3) := dk_182 0 112 (dk_at dksX8_and_0 9 rfl rfl)
theorem dX8_and_12 : decode cX8_and 12 = .ok (.ifCond .eq 26, 3) := dk_153 0 26 (dk_at dksX8_and_0 12 rfl rfl)
theorem dX8_and_15 : decode cX8_and 15 = .ok (.aload_n 0, 1) := dk_42 (dk_at dksX8_and_0 15 rfl rfl)
theorem dX8_and_16 : decode cX8_and 16 = .ok (.invokevirtual 29, 3) := dk_182 0 29 (dk_at dksX8_and_0 16 rfl rfl)
theorem dX8_and_19 : decode cX8_and 19 = .ok (.new 200, 3) := dk_187 0 200 (dk_at dksX8_and_0 19 rfl rfl)
theorem dX8_and_22 : decode cX8_and 22 = .ok (.dup, 1) := dk_89 (dk_at dksX8_and_0 22 rfl rfl)
theorem dX8_and_23 : decode cX8_and 23 = .ok (.bipush 38, 2) := dk_16 38 (dk_at dksX8_and_1 0 rfl rfl)
theorem dX8_and_25 : decode cX8_and 25 = .ok (.aload_n 2, 1) := dk_44 (dk_at dksX8_and_1 2 rfl rfl)
theorem dX8_and_26 : decode cX8_and 26 = .ok (.aload_n 0, 1) := dk_42 (dk_at dksX8_and_1 3 rfl rfl)
theorem dX8_and_27 : decode cX8_and 27 = .ok (.iload_n 1, 1) := dk_27 (dk_at dksX8_and_1 4 rfl rfl)
theorem dX8_and_28 : decode cX8_and 28 = .ok (.invokevirtual 205, 3) := dk_182 0 205 (dk_at dksX8_and_1 5 rfl rfl)
theorem dX8_and_31 : decode cX8_and 31 = .ok (.invokespecial 202, 3) := dk_183 0 202 (dk_at dksX8_and_1 8 rfl rfl)
theorem dX8_and_34 : decode cX8_and 34 = .ok (.astore_n 2, 1) := dk_77 (dk_at dksX8_and_1 11 rfl rfl)
theorem dX8_and_35 : decode cX8_and 35 = .ok (.goto (-29), 3) := dk_167 255 227 (dk_at dksX8_and_1 12 rfl rfl)
theorem dX8_and_38 : decode cX8_and 38 = .ok (.aload_n 2, 1) := dk_44 (dk_at dksX8_and_1 15 rfl rfl)
theorem dX8_and_39 : decode cX8_and 39 = .ok (.areturn, 1) := dk_176 (dk_at dksX8_and_1 16 rfl rfl)
abbrev cX8_not : ByteArray := prog_11_method_16_code
def yX8_not : MethodName := ⟨RX8, "not", "(I)LTableTower$Expr;"⟩
def dkwX8_not_4 : List UInt8 := [158, 0, 18, 187, 0, 221, 89, 45, 183, 0, 223, 78, 132, 2, 255, 167, 255, 240, 45, 176]
abbrev dktX8_not_4 : List UInt8 := dkwX8_not_4 ++ []
def dkwX8_not_3 : List UInt8 := [54, 4, 42, 182, 0, 29, 187, 0, 200, 89, 21, 4, 45, 42, 27, 182, 0, 210, 183, 0, 202, 78, 28]
abbrev dktX8_not_3 : List UInt8 := dkwX8_not_3 ++ dktX8_not_4
def dkwX8_not_2 : List UInt8 := [182, 0, 112, 154, 0, 12, 42, 18, 215, 182, 0, 112, 153, 0, 33, 42, 180, 0, 11, 3, 182, 0, 217]
abbrev dktX8_not_2 : List UInt8 := dkwX8_not_2 ++ dktX8_not_3
def dkwX8_not_1 : List UInt8 := [182, 0, 116, 42, 182, 0, 29, 132, 2, 1, 167, 255, 224, 42, 27, 182, 0, 210, 78, 42, 18, 213]
abbrev dktX8_not_1 : List UInt8 := dkwX8_not_1 ++ dktX8_not_2
def dkwX8_not_0 : List UInt8 := [3, 61, 42, 18, 209, 182, 0, 112, 153, 0, 29, 42, 28, 16, 6, 162, 0, 7, 4, 167, 0, 4, 3, 5]
abbrev dktX8_not_0 : List UInt8 := dkwX8_not_0 ++ dktX8_not_1
theorem dksX8_not_0 : cX8_not.data.toList.drop 0 = dktX8_not_0 := by decide +kernel
theorem dksX8_not_1 : cX8_not.data.toList.drop 24 = dktX8_not_1 := dk_seg dksX8_not_0 24 rfl rfl
theorem dksX8_not_2 : cX8_not.data.toList.drop 46 = dktX8_not_2 := dk_seg dksX8_not_1 22 rfl rfl
theorem dksX8_not_3 : cX8_not.data.toList.drop 69 = dktX8_not_3 := dk_seg dksX8_not_2 23 rfl rfl
theorem dksX8_not_4 : cX8_not.data.toList.drop 92 = dktX8_not_4 := dk_seg dksX8_not_3 23 rfl rfl
theorem dX8_not_0 : decode cX8_not 0 = .ok (.iconst 0, 1) := dk_3 (dk_at dksX8_not_0 0 rfl rfl)
theorem dX8_not_1 : decode cX8_not 1 = .ok (.istore_n 2, 1) := dk_61 (dk_at dksX8_not_0 1 rfl rfl)
theorem dX8_not_2 : decode cX8_not 2 = .ok (.aload_n 0, 1) := dk_42 (dk_at dksX8_not_0 2 rfl rfl)
theorem dX8_not_3 : decode cX8_not 3 = .ok (.ldc 209, 2) := dk_18 209 (dk_at dksX8_not_0 3 rfl rfl)
theorem dX8_not_5 : decode cX8_not 5 = .ok (.invokevirtual 112, 3) := dk_182 0 112 (dk_at dksX8_not_0 5 rfl rfl)
theorem dX8_not_8 : decode cX8_not 8 = .ok (.ifCond .eq 29, 3) := dk_153 0 29 (dk_at dksX8_not_0 8 rfl rfl)
theorem dX8_not_11 : decode cX8_not 11 = .ok (.aload_n 0, 1) := dk_42 (dk_at dksX8_not_0 11 rfl rfl)
theorem dX8_not_12 : decode cX8_not 12 = .ok (.iload_n 2, 1) := dk_28 (dk_at dksX8_not_0 12 rfl rfl)
theorem dX8_not_13 : decode cX8_not 13 = .ok (.bipush 6, 2) := dk_16 6 (dk_at dksX8_not_0 13 rfl rfl)
theorem dX8_not_15 : decode cX8_not 15 = .ok (.if_icmp .ge 7, 3) := dk_162 0 7 (dk_at dksX8_not_0 15 rfl rfl)
theorem dX8_not_18 : decode cX8_not 18 = .ok (.iconst 1, 1) := dk_4 (dk_at dksX8_not_0 18 rfl rfl)
theorem dX8_not_19 : decode cX8_not 19 = .ok (.goto 4, 3) := dk_167 0 4 (dk_at dksX8_not_0 19 rfl rfl)
theorem dX8_not_22 : decode cX8_not 22 = .ok (.iconst 0, 1) := dk_3 (dk_at dksX8_not_0 22 rfl rfl)
theorem dX8_not_23 : decode cX8_not 23 = .ok (.iconst 2, 1) := dk_5 (dk_at dksX8_not_0 23 rfl rfl)
theorem dX8_not_24 : decode cX8_not 24 = .ok (.invokevirtual 116, 3) := dk_182 0 116 (dk_at dksX8_not_1 0 rfl rfl)
theorem dX8_not_27 : decode cX8_not 27 = .ok (.aload_n 0, 1) := dk_42 (dk_at dksX8_not_1 3 rfl rfl)
theorem dX8_not_28 : decode cX8_not 28 = .ok (.invokevirtual 29, 3) := dk_182 0 29 (dk_at dksX8_not_1 4 rfl rfl)
theorem dX8_not_31 : decode cX8_not 31 = .ok (.iinc 2 1, 3) := dk_132 2 1 (dk_at dksX8_not_1 7 rfl rfl)
theorem dX8_not_34 : decode cX8_not 34 = .ok (.goto (-32), 3) := dk_167 255 224 (dk_at dksX8_not_1 10 rfl rfl)
theorem dX8_not_37 : decode cX8_not 37 = .ok (.aload_n 0, 1) := dk_42 (dk_at dksX8_not_1 13 rfl rfl)
theorem dX8_not_38 : decode cX8_not 38 = .ok (.iload_n 1, 1) := dk_27 (dk_at dksX8_not_1 14 rfl rfl)
theorem dX8_not_39 : decode cX8_not 39 = .ok (.invokevirtual 210, 3) := dk_182 0 210 (dk_at dksX8_not_1 15 rfl rfl)
theorem dX8_not_42 : decode cX8_not 42 = .ok (.astore_n 3, 1) := dk_78 (dk_at dksX8_not_1 18 rfl rfl)
theorem dX8_not_43 : decode cX8_not 43 = .ok (.aload_n 0, 1) := dk_42 (dk_at dksX8_not_1 19 rfl rfl)
theorem dX8_not_44 : decode cX8_not 44 = .ok (.ldc 213, 2) := dk_18 213 (dk_at dksX8_not_1 20 rfl rfl)
theorem dX8_not_46 : decode cX8_not 46 = .ok (.invokevirtual 112, 3) := dk_182 0 112 (dk_at dksX8_not_2 0 rfl rfl)
theorem dX8_not_49 : decode cX8_not 49 = .ok (.ifCond .ne 12, 3) := dk_154 0 12 (dk_at dksX8_not_2 3 rfl rfl)
theorem dX8_not_52 : decode cX8_not 52 = .ok (.aload_n 0, 1) := dk_42 (dk_at dksX8_not_2 6 rfl rfl)
theorem dX8_not_53 : decode cX8_not 53 = .ok (.ldc 215, 2) := dk_18 215 (dk_at dksX8_not_2 7 rfl rfl)
theorem dX8_not_55 : decode cX8_not 55 = .ok (.invokevirtual 112, 3) := dk_182 0 112 (dk_at dksX8_not_2 9 rfl rfl)
theorem dX8_not_58 : decode cX8_not 58 = .ok (.ifCond .eq 33, 3) := dk_153 0 33 (dk_at dksX8_not_2 12 rfl rfl)
theorem dX8_not_61 : decode cX8_not 61 = .ok (.aload_n 0, 1) := dk_42 (dk_at dksX8_not_2 15 rfl rfl)
theorem dX8_not_62 : decode cX8_not 62 = .ok (.getfield 11, 3) := dk_180 0 11 (dk_at dksX8_not_2 16 rfl rfl)
theorem dX8_not_65 : decode cX8_not 65 = .ok (.iconst 0, 1) := dk_3 (dk_at dksX8_not_2 19 rfl rfl)
theorem dX8_not_66 : decode cX8_not 66 = .ok (.invokevirtual 217, 3) := dk_182 0 217 (dk_at dksX8_not_2 20 rfl rfl)
theorem dX8_not_69 : decode cX8_not 69 = .ok (.istore 4, 2) := dk_54 4 (dk_at dksX8_not_3 0 rfl rfl)
theorem dX8_not_71 : decode cX8_not 71 = .ok (.aload_n 0, 1) := dk_42 (dk_at dksX8_not_3 2 rfl rfl)
theorem dX8_not_72 : decode cX8_not 72 = .ok (.invokevirtual 29, 3) := dk_182 0 29 (dk_at dksX8_not_3 3 rfl rfl)
theorem dX8_not_75 : decode cX8_not 75 = .ok (.new 200, 3) := dk_187 0 200 (dk_at dksX8_not_3 6 rfl rfl)
theorem dX8_not_78 : decode cX8_not 78 = .ok (.dup, 1) := dk_89 (dk_at dksX8_not_3 9 rfl rfl)
theorem dX8_not_79 : decode cX8_not 79 = .ok (.iload 4, 2) := dk_21 4 (dk_at dksX8_not_3 10 rfl rfl)
theorem dX8_not_81 : decode cX8_not 81 = .ok (.aload_n 3, 1) := dk_45 (dk_at dksX8_not_3 12 rfl rfl)
theorem dX8_not_82 : decode cX8_not 82 = .ok (.aload_n 0, 1) := dk_42 (dk_at dksX8_not_3 13 rfl rfl)
theorem dX8_not_83 : decode cX8_not 83 = .ok (.iload_n 1, 1) := dk_27 (dk_at dksX8_not_3 14 rfl rfl)
theorem dX8_not_84 : decode cX8_not 84 = .ok (.invokevirtual 210, 3) := dk_182 0 210 (dk_at dksX8_not_3 15 rfl rfl)
theorem dX8_not_87 : decode cX8_not 87 = .ok (.invokespecial 202, 3) := dk_183 0 202 (dk_at dksX8_not_3 18 rfl rfl)
theorem dX8_not_90 : decode cX8_not 90 = .ok (.astore_n 3, 1) := dk_78 (dk_at dksX8_not_3 21 rfl rfl)
theorem dX8_not_91 : decode cX8_not 91 = .ok (.iload_n 2, 1) := dk_28 (dk_at dksX8_not_3 22 rfl rfl)
theorem dX8_not_92 : decode cX8_not 92 = .ok (.ifCond .le 18, 3) := dk_158 0 18 (dk_at dksX8_not_4 0 rfl rfl)
theorem dX8_not_95 : decode cX8_not 95 = .ok (.new 221, 3) := dk_187 0 221 (dk_at dksX8_not_4 3 rfl rfl)
theorem dX8_not_98 : decode cX8_not 98 = .ok (.dup, 1) := dk_89 (dk_at dksX8_not_4 6 rfl rfl)
theorem dX8_not_99 : decode cX8_not 99 = .ok (.aload_n 3, 1) := dk_45 (dk_at dksX8_not_4 7 rfl rfl)
theorem dX8_not_100 : decode cX8_not 100 = .ok (.invokespecial 223, 3) := dk_183 0 223 (dk_at dksX8_not_4 8 rfl rfl)
theorem dX8_not_103 : decode cX8_not 103 = .ok (.astore_n 3, 1) := dk_78 (dk_at dksX8_not_4 11 rfl rfl)
theorem dX8_not_104 : decode cX8_not 104 = .ok (.iinc 2 (-1), 3) := dk_132 2 255 (dk_at dksX8_not_4 12 rfl rfl)
theorem dX8_not_107 : decode cX8_not 107 = .ok (.goto (-16), 3) := dk_167 255 240 (dk_at dksX8_not_4 15 rfl rfl)
theorem dX8_not_110 : decode cX8_not 110 = .ok (.aload_n 3, 1) := dk_45 (dk_at dksX8_not_4 18 rfl rfl)
theorem dX8_not_111 : decode cX8_not 111 = .ok (.areturn, 1) := dk_176 (dk_at dksX8_not_4 19 rfl rfl)
abbrev cX8_sum : ByteArray := prog_11_method_17_code
def yX8_sum : MethodName := ⟨RX8, "sum", "(I)LTableTower$Expr;"⟩
def dkwX8_sum_2 : List UInt8 := [183, 0, 202, 77, 167, 255, 210, 44, 176]
abbrev dktX8_sum_2 : List UInt8 := dkwX8_sum_2 ++ []
def dkwX8_sum_1 : List UInt8 := [42, 180, 0, 11, 3, 182, 0, 217, 62, 42, 182, 0, 29, 187, 0, 200, 89, 29, 44, 42, 27, 182, 0, 226]
abbrev dktX8_sum_1 : List UInt8 := dkwX8_sum_1 ++ dktX8_sum_2
def dkwX8_sum_0 : List UInt8 := [42, 27, 182, 0, 226, 77, 42, 18, 229, 182, 0, 112, 154, 0, 12, 42, 18, 177, 182, 0, 112, 153, 0, 34]
abbrev dktX8_sum_0 : List UInt8 := dkwX8_sum_0 ++ dktX8_sum_1
theorem dksX8_sum_0 : cX8_sum.data.toList.drop 0 = dktX8_sum_0 := by decide +kernel
theorem dksX8_sum_1 : cX8_sum.data.toList.drop 24 = dktX8_sum_1 := dk_seg dksX8_sum_0 24 rfl rfl
theorem dksX8_sum_2 : cX8_sum.data.toList.drop 48 = dktX8_sum_2 := dk_seg dksX8_sum_1 24 rfl rfl
theorem dX8_sum_0 : decode cX8_sum 0 = .ok (.aload_n 0, 1) := dk_42 (dk_at dksX8_sum_0 0 rfl rfl)
theorem dX8_sum_1 : decode cX8_sum 1 = .ok (.iload_n 1, 1) := dk_27 (dk_at dksX8_sum_0 1 rfl rfl)
theorem dX8_sum_2 : decode cX8_sum 2 = .ok (.invokevirtual 226, 3) := dk_182 0 226 (dk_at dksX8_sum_0 2 rfl rfl)
theorem dX8_sum_5 : decode cX8_sum 5 = .ok (.astore_n 2, 1) := dk_77 (dk_at dksX8_sum_0 5 rfl rfl)
theorem dX8_sum_6 : decode cX8_sum 6 = .ok (.aload_n 0, 1) := dk_42 (dk_at dksX8_sum_0 6 rfl rfl)
theorem dX8_sum_7 : decode cX8_sum 7 = .ok (.ldc 229, 2) := dk_18 229 (dk_at dksX8_sum_0 7 rfl rfl)
theorem dX8_sum_9 : decode cX8_sum 9 = .ok (.invokevirtual 112, 3) := dk_182 0 112 (dk_at dksX8_sum_0 9 rfl rfl)
theorem dX8_sum_12 : decode cX8_sum 12 = .ok (.ifCond .ne 12, 3) := dk_154 0 12 (dk_at dksX8_sum_0 12 rfl rfl)
theorem dX8_sum_15 : decode cX8_sum 15 = .ok (.aload_n 0, 1) := dk_42 (dk_at dksX8_sum_0 15 rfl rfl)
theorem dX8_sum_16 : decode cX8_sum 16 = .ok (.ldc 177, 2) := dk_18 177 (dk_at dksX8_sum_0 16 rfl rfl)
theorem dX8_sum_18 : decode cX8_sum 18 = .ok (.invokevirtual 112, 3) := dk_182 0 112 (dk_at dksX8_sum_0 18 rfl rfl)
theorem dX8_sum_21 : decode cX8_sum 21 = .ok (.ifCond .eq 34, 3) := dk_153 0 34 (dk_at dksX8_sum_0 21 rfl rfl)
theorem dX8_sum_24 : decode cX8_sum 24 = .ok (.aload_n 0, 1) := dk_42 (dk_at dksX8_sum_1 0 rfl rfl)
theorem dX8_sum_25 : decode cX8_sum 25 = .ok (.getfield 11, 3) := dk_180 0 11 (dk_at dksX8_sum_1 1 rfl rfl)
theorem dX8_sum_28 : decode cX8_sum 28 = .ok (.iconst 0, 1) := dk_3 (dk_at dksX8_sum_1 4 rfl rfl)
theorem dX8_sum_29 : decode cX8_sum 29 = .ok (.invokevirtual 217, 3) := dk_182 0 217 (dk_at dksX8_sum_1 5 rfl rfl)
theorem dX8_sum_32 : decode cX8_sum 32 = .ok (.istore_n 3, 1) := dk_62 (dk_at dksX8_sum_1 8 rfl rfl)
theorem dX8_sum_33 : decode cX8_sum 33 = .ok (.aload_n 0, 1) := dk_42 (dk_at dksX8_sum_1 9 rfl rfl)
theorem dX8_sum_34 : decode cX8_sum 34 = .ok (.invokevirtual 29, 3) := dk_182 0 29 (dk_at dksX8_sum_1 10 rfl rfl)
theorem dX8_sum_37 : decode cX8_sum 37 = .ok (.new 200, 3) := dk_187 0 200 (dk_at dksX8_sum_1 13 rfl rfl)
theorem dX8_sum_40 : decode cX8_sum 40 = .ok (.dup, 1) := dk_89 (dk_at dksX8_sum_1 16 rfl rfl)
theorem dX8_sum_41 : decode cX8_sum 41 = .ok (.iload_n 3, 1) := dk_29 (dk_at dksX8_sum_1 17 rfl rfl)
theorem dX8_sum_42 : decode cX8_sum 42 = .ok (.aload_n 2, 1) := dk_44 (dk_at dksX8_sum_1 18 rfl rfl)
theorem dX8_sum_43 : decode cX8_sum 43 = .ok (.aload_n 0, 1) := dk_42 (dk_at dksX8_sum_1 19 rfl rfl)
theorem dX8_sum_44 : decode cX8_sum 44 = .ok (.iload_n 1, 1) := dk_27 (dk_at dksX8_sum_1 20 rfl rfl)
theorem dX8_sum_45 : decode cX8_sum 45 = .ok (.invokevirtual 226, 3) := dk_182 0 226 (dk_at dksX8_sum_1 21 rfl rfl)
theorem dX8_sum_48 : decode cX8_sum 48 = .ok (.invokespecial 202, 3) := dk_183 0 202 (dk_at dksX8_sum_2 0 rfl rfl)
theorem dX8_sum_51 : decode cX8_sum 51 = .ok (.astore_n 2, 1) := dk_77 (dk_at dksX8_sum_2 3 rfl rfl)
theorem dX8_sum_52 : decode cX8_sum 52 = .ok (.goto (-46), 3) := dk_167 255 210 (dk_at dksX8_sum_2 4 rfl rfl)
theorem dX8_sum_55 : decode cX8_sum 55 = .ok (.aload_n 2, 1) := dk_44 (dk_at dksX8_sum_2 7 rfl rfl)
theorem dX8_sum_56 : decode cX8_sum 56 = .ok (.areturn, 1) := dk_176 (dk_at dksX8_sum_2 8 rfl rfl)
abbrev cX8_product : ByteArray := prog_11_method_18_code
def yX8_product : MethodName := ⟨RX8, "product", "(I)LTableTower$Expr;"⟩
def dkwX8_product_2 : List UInt8 := [183, 0, 202, 77, 167, 255, 210, 44, 176]
abbrev dktX8_product_2 : List UInt8 := dkwX8_product_2 ++ []
def dkwX8_product_1 : List UInt8 := [42, 180, 0, 11, 3, 182, 0, 217, 62, 42, 182, 0, 29, 187, 0, 200, 89, 29, 44, 42, 27, 182, 0, 231]
abbrev dktX8_product_1 : List UInt8 := dkwX8_product_1 ++ dktX8_product_2
def dkwX8_product_0 : List UInt8 := [42, 27, 182, 0, 231, 77, 42, 18, 234, 182, 0, 112, 154, 0, 12, 42, 18, 236, 182, 0, 112, 153, 0, 34]
abbrev dktX8_product_0 : List UInt8 := dkwX8_product_0 ++ dktX8_product_1
theorem dksX8_product_0 : cX8_product.data.toList.drop 0 = dktX8_product_0 := by decide +kernel
theorem dksX8_product_1 : cX8_product.data.toList.drop 24 = dktX8_product_1 := dk_seg dksX8_product_0 24 rfl rfl
theorem dksX8_product_2 : cX8_product.data.toList.drop 48 = dktX8_product_2 := dk_seg dksX8_product_1 24 rfl rfl
theorem dX8_product_0 : decode cX8_product 0 = .ok (.aload_n 0, 1) := dk_42 (dk_at dksX8_product_0 0 rfl rfl)
theorem dX8_product_1 : decode cX8_product 1 = .ok (.iload_n 1, 1) := dk_27 (dk_at dksX8_product_0 1 rfl rfl)
theorem dX8_product_2 : decode cX8_product 2 = .ok (.invokevirtual 231, 3) := dk_182 0 231 (dk_at dksX8_product_0 2 rfl rfl)
theorem dX8_product_5 : decode cX8_product 5 = .ok (.astore_n 2, 1) := dk_77 (dk_at dksX8_product_0 5 rfl rfl)
theorem dX8_product_6 : decode cX8_product 6 = .ok (.aload_n 0, 1) := dk_42 (dk_at dksX8_product_0 6 rfl rfl)
theorem dX8_product_7 : decode cX8_product 7 = .ok (.ldc 234, 2) := dk_18 234 (dk_at dksX8_product_0 7 rfl rfl)
theorem dX8_product_9 : decode cX8_product 9 = .ok (.invokevirtual 112, 3) := dk_182 0 112 (dk_at dksX8_product_0 9 rfl rfl)
theorem dX8_product_12 : decode cX8_product 12 = .ok (.ifCond .ne 12, 3) := dk_154 0 12 (dk_at dksX8_product_0 12 rfl rfl)
theorem dX8_product_15 : decode cX8_product 15 = .ok (.aload_n 0, 1) := dk_42 (dk_at dksX8_product_0 15 rfl rfl)
theorem dX8_product_16 : decode cX8_product 16 = .ok (.ldc 236, 2) := dk_18 236 (dk_at dksX8_product_0 16 rfl rfl)
theorem dX8_product_18 : decode cX8_product 18 = .ok (.invokevirtual 112, 3) := dk_182 0 112 (dk_at dksX8_product_0 18 rfl rfl)
theorem dX8_product_21 : decode cX8_product 21 = .ok (.ifCond .eq 34, 3) := dk_153 0 34 (dk_at dksX8_product_0 21 rfl rfl)
theorem dX8_product_24 : decode cX8_product 24 = .ok (.aload_n 0, 1) := dk_42 (dk_at dksX8_product_1 0 rfl rfl)
theorem dX8_product_25 : decode cX8_product 25 = .ok (.getfield 11, 3) := dk_180 0 11 (dk_at dksX8_product_1 1 rfl rfl)
theorem dX8_product_28 : decode cX8_product 28 = .ok (.iconst 0, 1) := dk_3 (dk_at dksX8_product_1 4 rfl rfl)
theorem dX8_product_29 : decode cX8_product 29 = .ok (.invokevirtual 217, 3) := dk_182 0 217 (dk_at dksX8_product_1 5 rfl rfl)
theorem dX8_product_32 : decode cX8_product 32 = .ok (.istore_n 3, 1) := dk_62 (dk_at dksX8_product_1 8 rfl rfl)
theorem dX8_product_33 : decode cX8_product 33 = .ok (.aload_n 0, 1) := dk_42 (dk_at dksX8_product_1 9 rfl rfl)
theorem dX8_product_34 : decode cX8_product 34 = .ok (.invokevirtual 29, 3) := dk_182 0 29 (dk_at dksX8_product_1 10 rfl rfl)
theorem dX8_product_37 : decode cX8_product 37 = .ok (.new 200, 3) := dk_187 0 200 (dk_at dksX8_product_1 13 rfl rfl)
theorem dX8_product_40 : decode cX8_product 40 = .ok (.dup, 1) := dk_89 (dk_at dksX8_product_1 16 rfl rfl)
theorem dX8_product_41 : decode cX8_product 41 = .ok (.iload_n 3, 1) := dk_29 (dk_at dksX8_product_1 17 rfl rfl)
theorem dX8_product_42 : decode cX8_product 42 = .ok (.aload_n 2, 1) := dk_44 (dk_at dksX8_product_1 18 rfl rfl)
theorem dX8_product_43 : decode cX8_product 43 = .ok (.aload_n 0, 1) := dk_42 (dk_at dksX8_product_1 19 rfl rfl)
theorem dX8_product_44 : decode cX8_product 44 = .ok (.iload_n 1, 1) := dk_27 (dk_at dksX8_product_1 20 rfl rfl)
theorem dX8_product_45 : decode cX8_product 45 = .ok (.invokevirtual 231, 3) := dk_182 0 231 (dk_at dksX8_product_1 21 rfl rfl)
theorem dX8_product_48 : decode cX8_product 48 = .ok (.invokespecial 202, 3) := dk_183 0 202 (dk_at dksX8_product_2 0 rfl rfl)
theorem dX8_product_51 : decode cX8_product 51 = .ok (.astore_n 2, 1) := dk_77 (dk_at dksX8_product_2 3 rfl rfl)
theorem dX8_product_52 : decode cX8_product 52 = .ok (.goto (-46), 3) := dk_167 255 210 (dk_at dksX8_product_2 4 rfl rfl)
theorem dX8_product_55 : decode cX8_product 55 = .ok (.aload_n 2, 1) := dk_44 (dk_at dksX8_product_2 7 rfl rfl)
theorem dX8_product_56 : decode cX8_product 56 = .ok (.areturn, 1) := dk_176 (dk_at dksX8_product_2 8 rfl rfl)
abbrev cX8_part : ByteArray := prog_11_method_19_code
def yX8_part : MethodName := ⟨RX8, "part", "(I)LTableTower$Expr;"⟩
def dkwX8_part_4 : List UInt8 := [182, 0, 116, 42, 182, 0, 29, 187, 0, 246, 89, 44, 183, 0, 248, 176]
abbrev dktX8_part_4 : List UInt8 := dkwX8_part_4 ++ []
def dkwX8_part_3 : List UInt8 := [3, 4, 182, 0, 116, 42, 180, 0, 11, 184, 0, 243, 77, 42, 44, 198, 0, 7, 4, 167, 0, 4, 3, 6]
abbrev dktX8_part_3 : List UInt8 := dkwX8_part_3 ++ dktX8_part_4
def dkwX8_part_2 : List UInt8 := [77, 42, 18, 241, 182, 0, 173, 44, 176, 42, 42, 180, 0, 52, 178, 0, 76, 166, 0, 7, 4, 167, 0, 4]
abbrev dktX8_part_2 : List UInt8 := dkwX8_part_2 ++ dktX8_part_3
def dkwX8_part_1 : List UInt8 := [183, 0, 240, 176, 42, 18, 193, 182, 0, 112, 153, 0, 23, 42, 182, 0, 29, 42, 27, 4, 96, 182, 0, 141]
abbrev dktX8_part_1 : List UInt8 := dkwX8_part_1 ++ dktX8_part_2
def dkwX8_part_0 : List UInt8 := [42, 180, 0, 52, 178, 0, 85, 166, 0, 19, 187, 0, 238, 89, 42, 3, 17, 39, 15, 182, 0, 129]
abbrev dktX8_part_0 : List UInt8 := dkwX8_part_0 ++ dktX8_part_1
theorem dksX8_part_0 : cX8_part.data.toList.drop 0 = dktX8_part_0 := by decide +kernel
theorem dksX8_part_1 : cX8_part.data.toList.drop 22 = dktX8_part_1 := dk_seg dksX8_part_0 22 rfl rfl
theorem dksX8_part_2 : cX8_part.data.toList.drop 46 = dktX8_part_2 := dk_seg dksX8_part_1 24 rfl rfl
theorem dksX8_part_3 : cX8_part.data.toList.drop 70 = dktX8_part_3 := dk_seg dksX8_part_2 24 rfl rfl
theorem dksX8_part_4 : cX8_part.data.toList.drop 94 = dktX8_part_4 := dk_seg dksX8_part_3 24 rfl rfl
theorem dX8_part_0 : decode cX8_part 0 = .ok (.aload_n 0, 1) := dk_42 (dk_at dksX8_part_0 0 rfl rfl)
theorem dX8_part_1 : decode cX8_part 1 = .ok (.getfield 52, 3) := dk_180 0 52 (dk_at dksX8_part_0 1 rfl rfl)
theorem dX8_part_4 : decode cX8_part 4 = .ok (.getstatic 85, 3) := dk_178 0 85 (dk_at dksX8_part_0 4 rfl rfl)
theorem dX8_part_7 : decode cX8_part 7 = .ok (.if_acmp .ne 19, 3) := dk_166 0 19 (dk_at dksX8_part_0 7 rfl rfl)
theorem dX8_part_10 : decode cX8_part 10 = .ok (.new 238, 3) := dk_187 0 238 (dk_at dksX8_part_0 10 rfl rfl)
theorem dX8_part_13 : decode cX8_part 13 = .ok (.dup, 1) := dk_89 (dk_at dksX8_part_0 13 rfl rfl)
theorem dX8_part_14 : decode cX8_part 14 = .ok (.aload_n 0, 1) := dk_42 (dk_at dksX8_part_0 14 rfl rfl)
theorem dX8_part_15 : decode cX8_part 15 = .ok (.iconst 0, 1) := dk_3 (dk_at dksX8_part_0 15 rfl rfl)
theorem dX8_part_16 : decode cX8_part 16 = .ok (.sipush 9999, 3) := dk_17 39 15 (dk_at dksX8_part_0 16 rfl rfl)
theorem dX8_part_19 : decode cX8_part 19 = .ok (.invokevirtual 129, 3) := dk_182 0 129 (dk_at dksX8_part_0 19 rfl rfl)
theorem dX8_part_22 : decode cX8_part 22 = .ok (.invokespecial 240, 3) := dk_183 0 240 (dk_at dksX8_part_1 0 rfl rfl)
theorem dX8_part_25 : decode cX8_part 25 = .ok (.areturn, 1) := dk_176 (dk_at dksX8_part_1 3 rfl rfl)
theorem dX8_part_26 : decode cX8_part 26 = .ok (.aload_n 0, 1) := dk_42 (dk_at dksX8_part_1 4 rfl rfl)
theorem dX8_part_27 : decode cX8_part 27 = .ok (.ldc 193, 2) := dk_18 193 (dk_at dksX8_part_1 5 rfl rfl)
theorem dX8_part_29 : decode cX8_part 29 = .ok (.invokevirtual 112, 3) := dk_182 0 112 (dk_at dksX8_part_1 7 rfl rfl)
theorem dX8_part_32 : decode cX8_part 32 = .ok (.ifCond .eq 23, 3) := dk_153 0 23 (dk_at dksX8_part_1 10 rfl rfl)
theorem dX8_part_35 : decode cX8_part 35 = .ok (.aload_n 0, 1) := dk_42 (dk_at dksX8_part_1 13 rfl rfl)
theorem dX8_part_36 : decode cX8_part 36 = .ok (.invokevirtual 29, 3) := dk_182 0 29 (dk_at dksX8_part_1 14 rfl rfl)
theorem dX8_part_39 : decode cX8_part 39 = .ok (.aload_n 0, 1) := dk_42 (dk_at dksX8_part_1 17 rfl rfl)
theorem dX8_part_40 : decode cX8_part 40 = .ok (.iload_n 1, 1) := dk_27 (dk_at dksX8_part_1 18 rfl rfl)
theorem dX8_part_41 : decode cX8_part 41 = .ok (.iconst 1, 1) := dk_4 (dk_at dksX8_part_1 19 rfl rfl)
theorem dX8_part_42 : decode cX8_part 42 = .ok (.iadd, 1) := dk_96 (dk_at dksX8_part_1 20 rfl rfl)
theorem dX8_part_43 : decode cX8_part 43 = .ok (.invokevirtual 141, 3) := dk_182 0 141 (dk_at dksX8_part_1 21 rfl rfl)
theorem dX8_part_46 : decode cX8_part 46 = .ok (.astore_n 2, 1) := dk_77 (dk_at dksX8_part_2 0 rfl rfl)
theorem dX8_part_47 : decode cX8_part 47 = .ok (.aload_n 0, 1) := dk_42 (dk_at dksX8_part_2 1 rfl rfl)
theorem dX8_part_48 : decode cX8_part 48 = .ok (.ldc 241, 2) := dk_18 241 (dk_at dksX8_part_2 2 rfl rfl)
theorem dX8_part_50 : decode cX8_part 50 = .ok (.invokevirtual 173, 3) := dk_182 0 173 (dk_at dksX8_part_2 4 rfl rfl)
theorem dX8_part_53 : decode cX8_part 53 = .ok (.aload_n 2, 1) := dk_44 (dk_at dksX8_part_2 7 rfl rfl)
theorem dX8_part_54 : decode cX8_part 54 = .ok (.areturn, 1) := dk_176 (dk_at dksX8_part_2 8 rfl rfl)
theorem dX8_part_55 : decode cX8_part 55 = .ok (.aload_n 0, 1) := dk_42 (dk_at dksX8_part_2 9 rfl rfl)
theorem dX8_part_56 : decode cX8_part 56 = .ok (.aload_n 0, 1) := dk_42 (dk_at dksX8_part_2 10 rfl rfl)
theorem dX8_part_57 : decode cX8_part 57 = .ok (.getfield 52, 3) := dk_180 0 52 (dk_at dksX8_part_2 11 rfl rfl)
theorem dX8_part_60 : decode cX8_part 60 = .ok (.getstatic 76, 3) := dk_178 0 76 (dk_at dksX8_part_2 14 rfl rfl)
theorem dX8_part_63 : decode cX8_part 63 = .ok (.if_acmp .ne 7, 3) := dk_166 0 7 (dk_at dksX8_part_2 17 rfl rfl)
theorem dX8_part_66 : decode cX8_part 66 = .ok (.iconst 1, 1) := dk_4 (dk_at dksX8_part_2 20 rfl rfl)
theorem dX8_part_67 : decode cX8_part 67 = .ok (.goto 4, 3) := dk_167 0 4 (dk_at dksX8_part_2 21 rfl rfl)
theorem dX8_part_70 : decode cX8_part 70 = .ok (.iconst 0, 1) := dk_3 (dk_at dksX8_part_3 0 rfl rfl)
theorem dX8_part_71 : decode cX8_part 71 = .ok (.iconst 1, 1) := dk_4 (dk_at dksX8_part_3 1 rfl rfl)
theorem dX8_part_72 : decode cX8_part 72 = .ok (.invokevirtual 116, 3) := dk_182 0 116 (dk_at dksX8_part_3 2 rfl rfl)
theorem dX8_part_75 : decode cX8_part 75 = .ok (.aload_n 0, 1) := dk_42 (dk_at dksX8_part_3 5 rfl rfl)
theorem dX8_part_76 : decode cX8_part 76 = .ok (.getfield 11, 3) := dk_180 0 11 (dk_at dksX8_part_3 6 rfl rfl)
theorem dX8_part_79 : decode cX8_part 79 = .ok (.invokestatic 243, 3) := dk_184 0 243 (dk_at dksX8_part_3 9 rfl rfl)
theorem dX8_part_82 : decode cX8_part 82 = .ok (.astore_n 2, 1) := dk_77 (dk_at dksX8_part_3 12 rfl rfl)
theorem dX8_part_83 : decode cX8_part 83 = .ok (.aload_n 0, 1) := dk_42 (dk_at dksX8_part_3 13 rfl rfl)
theorem dX8_part_84 : decode cX8_part 84 = .ok (.aload_n 2, 1) := dk_44 (dk_at dksX8_part_3 14 rfl rfl)
theorem dX8_part_85 : decode cX8_part 85 = .ok (.ifnull 7, 3) := dk_198 0 7 (dk_at dksX8_part_3 15 rfl rfl)
theorem dX8_part_88 : decode cX8_part 88 = .ok (.iconst 1, 1) := dk_4 (dk_at dksX8_part_3 18 rfl rfl)
theorem dX8_part_89 : decode cX8_part 89 = .ok (.goto 4, 3) := dk_167 0 4 (dk_at dksX8_part_3 19 rfl rfl)
theorem dX8_part_92 : decode cX8_part 92 = .ok (.iconst 0, 1) := dk_3 (dk_at dksX8_part_3 22 rfl rfl)
theorem dX8_part_93 : decode cX8_part 93 = .ok (.iconst 3, 1) := dk_6 (dk_at dksX8_part_3 23 rfl rfl)
theorem dX8_part_94 : decode cX8_part 94 = .ok (.invokevirtual 116, 3) := dk_182 0 116 (dk_at dksX8_part_4 0 rfl rfl)
theorem dX8_part_97 : decode cX8_part 97 = .ok (.aload_n 0, 1) := dk_42 (dk_at dksX8_part_4 3 rfl rfl)
theorem dX8_part_98 : decode cX8_part 98 = .ok (.invokevirtual 29, 3) := dk_182 0 29 (dk_at dksX8_part_4 4 rfl rfl)
theorem dX8_part_101 : decode cX8_part 101 = .ok (.new 246, 3) := dk_187 0 246 (dk_at dksX8_part_4 7 rfl rfl)
theorem dX8_part_104 : decode cX8_part 104 = .ok (.dup, 1) := dk_89 (dk_at dksX8_part_4 10 rfl rfl)
theorem dX8_part_105 : decode cX8_part 105 = .ok (.aload_n 2, 1) := dk_44 (dk_at dksX8_part_4 11 rfl rfl)
theorem dX8_part_106 : decode cX8_part 106 = .ok (.invokespecial 248, 3) := dk_183 0 248 (dk_at dksX8_part_4 12 rfl rfl)
theorem dX8_part_109 : decode cX8_part 109 = .ok (.areturn, 1) := dk_176 (dk_at dksX8_part_4 15 rfl rfl)
abbrev cX8_need : ByteArray := prog_11_method_9_code
def yX8_need : MethodName := ⟨RX8, "need", "(Ljava/lang/String;)V"⟩
def dkwX8_need_0 : List UInt8 := [42, 42, 43, 182, 0, 112, 4, 182, 0, 116, 42, 182, 0, 29, 177]
abbrev dktX8_need_0 : List UInt8 := dkwX8_need_0 ++ []
theorem dksX8_need_0 : cX8_need.data.toList.drop 0 = dktX8_need_0 := by decide +kernel
theorem dX8_need_0 : decode cX8_need 0 = .ok (.aload_n 0, 1) := dk_42 (dk_at dksX8_need_0 0 rfl rfl)
theorem dX8_need_1 : decode cX8_need 1 = .ok (.aload_n 0, 1) := dk_42 (dk_at dksX8_need_0 1 rfl rfl)
theorem dX8_need_2 : decode cX8_need 2 = .ok (.aload_n 1, 1) := dk_43 (dk_at dksX8_need_0 2 rfl rfl)
theorem dX8_need_3 : decode cX8_need 3 = .ok (.invokevirtual 112, 3) := dk_182 0 112 (dk_at dksX8_need_0 3 rfl rfl)
theorem dX8_need_6 : decode cX8_need 6 = .ok (.iconst 1, 1) := dk_4 (dk_at dksX8_need_0 6 rfl rfl)
theorem dX8_need_7 : decode cX8_need 7 = .ok (.invokevirtual 116, 3) := dk_182 0 116 (dk_at dksX8_need_0 7 rfl rfl)
theorem dX8_need_10 : decode cX8_need 10 = .ok (.aload_n 0, 1) := dk_42 (dk_at dksX8_need_0 10 rfl rfl)
theorem dX8_need_11 : decode cX8_need 11 = .ok (.invokevirtual 29, 3) := dk_182 0 29 (dk_at dksX8_need_0 11 rfl rfl)
theorem dX8_need_14 : decode cX8_need 14 = .ok (.return_, 1) := dk_177 (dk_at dksX8_need_0 14 rfl rfl)
abbrev cX8_valueOf : ByteArray := prog_11_method_20_code
def yX8_valueOf : MethodName := ⟨RX8, "valueOf", "(Ljava/lang/String;)LTableTower$Value;"⟩
def dkwX8_valueOf_3 : List UInt8 := [42, 19, 1, 23, 182, 0, 103, 153, 0, 9, 178, 1, 25, 167, 0, 4, 1, 176]
abbrev dktX8_valueOf_3 : List UInt8 := dkwX8_valueOf_3 ++ []
def dkwX8_valueOf_2 : List UInt8 := [182, 0, 103, 153, 0, 7, 178, 1, 15, 176, 42, 19, 1, 18, 182, 0, 103, 153, 0, 7, 178, 1, 20, 176]
abbrev dktX8_valueOf_2 : List UInt8 := dkwX8_valueOf_2 ++ dktX8_valueOf_3
def dkwX8_valueOf_1 : List UInt8 := [178, 1, 5, 176, 42, 19, 1, 8, 182, 0, 103, 153, 0, 7, 178, 1, 10, 176, 42, 19, 1, 13]
abbrev dktX8_valueOf_1 : List UInt8 := dkwX8_valueOf_1 ++ dktX8_valueOf_2
def dkwX8_valueOf_0 : List UInt8 := [42, 18, 251, 182, 0, 103, 153, 0, 7, 178, 0, 253, 176, 42, 19, 1, 3, 182, 0, 103, 153, 0, 7]
abbrev dktX8_valueOf_0 : List UInt8 := dkwX8_valueOf_0 ++ dktX8_valueOf_1
theorem dksX8_valueOf_0 : cX8_valueOf.data.toList.drop 0 = dktX8_valueOf_0 := by decide +kernel
theorem dksX8_valueOf_1 : cX8_valueOf.data.toList.drop 23 = dktX8_valueOf_1 := dk_seg dksX8_valueOf_0 23 rfl rfl
theorem dksX8_valueOf_2 : cX8_valueOf.data.toList.drop 45 = dktX8_valueOf_2 := dk_seg dksX8_valueOf_1 22 rfl rfl
theorem dksX8_valueOf_3 : cX8_valueOf.data.toList.drop 69 = dktX8_valueOf_3 := dk_seg dksX8_valueOf_2 24 rfl rfl
theorem dX8_valueOf_0 : decode cX8_valueOf 0 = .ok (.aload_n 0, 1) := dk_42 (dk_at dksX8_valueOf_0 0 rfl rfl)
theorem dX8_valueOf_1 : decode cX8_valueOf 1 = .ok (.ldc 251, 2) := dk_18 251 (dk_at dksX8_valueOf_0 1 rfl rfl)
theorem dX8_valueOf_3 : decode cX8_valueOf 3 = .ok (.invokevirtual 103, 3) := dk_182 0 103 (dk_at dksX8_valueOf_0 3 rfl rfl)
theorem dX8_valueOf_6 : decode cX8_valueOf 6 = .ok (.ifCond .eq 7, 3) := dk_153 0 7 (dk_at dksX8_valueOf_0 6 rfl rfl)
theorem dX8_valueOf_9 : decode cX8_valueOf 9 = .ok (.getstatic 253, 3) := dk_178 0 253 (dk_at dksX8_valueOf_0 9 rfl rfl)
theorem dX8_valueOf_12 : decode cX8_valueOf 12 = .ok (.areturn, 1) := dk_176 (dk_at dksX8_valueOf_0 12 rfl rfl)
theorem dX8_valueOf_13 : decode cX8_valueOf 13 = .ok (.aload_n 0, 1) := dk_42 (dk_at dksX8_valueOf_0 13 rfl rfl)
theorem dX8_valueOf_14 : decode cX8_valueOf 14 = .ok (.ldc_w 259, 3) := dk_19 1 3 (dk_at dksX8_valueOf_0 14 rfl rfl)
theorem dX8_valueOf_17 : decode cX8_valueOf 17 = .ok (.invokevirtual 103, 3) := dk_182 0 103 (dk_at dksX8_valueOf_0 17 rfl rfl)
theorem dX8_valueOf_20 : decode cX8_valueOf 20 = .ok (.ifCond .eq 7, 3) := dk_153 0 7 (dk_at dksX8_valueOf_0 20 rfl rfl)
theorem dX8_valueOf_23 : decode cX8_valueOf 23 = .ok (.getstatic 261, 3) := dk_178 1 5 (dk_at dksX8_valueOf_1 0 rfl rfl)
theorem dX8_valueOf_26 : decode cX8_valueOf 26 = .ok (.areturn, 1) := dk_176 (dk_at dksX8_valueOf_1 3 rfl rfl)
theorem dX8_valueOf_27 : decode cX8_valueOf 27 = .ok (.aload_n 0, 1) := dk_42 (dk_at dksX8_valueOf_1 4 rfl rfl)
theorem dX8_valueOf_28 : decode cX8_valueOf 28 = .ok (.ldc_w 264, 3) := dk_19 1 8 (dk_at dksX8_valueOf_1 5 rfl rfl)
theorem dX8_valueOf_31 : decode cX8_valueOf 31 = .ok (.invokevirtual 103, 3) := dk_182 0 103 (dk_at dksX8_valueOf_1 8 rfl rfl)
theorem dX8_valueOf_34 : decode cX8_valueOf 34 = .ok (.ifCond .eq 7, 3) := dk_153 0 7 (dk_at dksX8_valueOf_1 11 rfl rfl)
theorem dX8_valueOf_37 : decode cX8_valueOf 37 = .ok (.getstatic 266, 3) := dk_178 1 10 (dk_at dksX8_valueOf_1 14 rfl rfl)
theorem dX8_valueOf_40 : decode cX8_valueOf 40 = .ok (.areturn, 1) := dk_176 (dk_at dksX8_valueOf_1 17 rfl rfl)
theorem dX8_valueOf_41 : decode cX8_valueOf 41 = .ok (.aload_n 0, 1) := dk_42 (dk_at dksX8_valueOf_1 18 rfl rfl)
theorem dX8_valueOf_42 : decode cX8_valueOf 42 = .ok (.ldc_w 269, 3) := dk_19 1 13 (dk_at dksX8_valueOf_1 19 rfl rfl)
theorem dX8_valueOf_45 : decode cX8_valueOf 45 = .ok (.invokevirtual 103, 3) := dk_182 0 103 (dk_at dksX8_valueOf_2 0 rfl rfl)
theorem dX8_valueOf_48 : decode cX8_valueOf 48 = .ok (.ifCond .eq 7, 3) := dk_153 0 7 (dk_at dksX8_valueOf_2 3 rfl rfl)
theorem dX8_valueOf_51 : decode cX8_valueOf 51 = .ok (.getstatic 271, 3) := dk_178 1 15 (dk_at dksX8_valueOf_2 6 rfl rfl)
theorem dX8_valueOf_54 : decode cX8_valueOf 54 = .ok (.areturn, 1) := dk_176 (dk_at dksX8_valueOf_2 9 rfl rfl)
theorem dX8_valueOf_55 : decode cX8_valueOf 55 = .ok (.aload_n 0, 1) := dk_42 (dk_at dksX8_valueOf_2 10 rfl rfl)
theorem dX8_valueOf_56 : decode cX8_valueOf 56 = .ok (.ldc_w 274, 3) := dk_19 1 18 (dk_at dksX8_valueOf_2 11 rfl rfl)
theorem dX8_valueOf_59 : decode cX8_valueOf 59 = .ok (.invokevirtual 103, 3) := dk_182 0 103 (dk_at dksX8_valueOf_2 14 rfl rfl)
theorem dX8_valueOf_62 : decode cX8_valueOf 62 = .ok (.ifCond .eq 7, 3) := dk_153 0 7 (dk_at dksX8_valueOf_2 17 rfl rfl)
theorem dX8_valueOf_65 : decode cX8_valueOf 65 = .ok (.getstatic 276, 3) := dk_178 1 20 (dk_at dksX8_valueOf_2 20 rfl rfl)
theorem dX8_valueOf_68 : decode cX8_valueOf 68 = .ok (.areturn, 1) := dk_176 (dk_at dksX8_valueOf_2 23 rfl rfl)
theorem dX8_valueOf_69 : decode cX8_valueOf 69 = .ok (.aload_n 0, 1) := dk_42 (dk_at dksX8_valueOf_3 0 rfl rfl)
theorem dX8_valueOf_70 : decode cX8_valueOf 70 = .ok (.ldc_w 279, 3) := dk_19 1 23 (dk_at dksX8_valueOf_3 1 rfl rfl)
theorem dX8_valueOf_73 : decode cX8_valueOf 73 = .ok (.invokevirtual 103, 3) := dk_182 0 103 (dk_at dksX8_valueOf_3 4 rfl rfl)
theorem dX8_valueOf_76 : decode cX8_valueOf 76 = .ok (.ifCond .eq 9, 3) := dk_153 0 9 (dk_at dksX8_valueOf_3 7 rfl rfl)
theorem dX8_valueOf_79 : decode cX8_valueOf 79 = .ok (.getstatic 281, 3) := dk_178 1 25 (dk_at dksX8_valueOf_3 10 rfl rfl)
theorem dX8_valueOf_82 : decode cX8_valueOf 82 = .ok (.goto 4, 3) := dk_167 0 4 (dk_at dksX8_valueOf_3 13 rfl rfl)
theorem dX8_valueOf_85 : decode cX8_valueOf 85 = .ok (.aconst_null, 1) := dk_1 (dk_at dksX8_valueOf_3 16 rfl rfl)
theorem dX8_valueOf_86 : decode cX8_valueOf 86 = .ok (.areturn, 1) := dk_176 (dk_at dksX8_valueOf_3 17 rfl rfl)
abbrev cX8_table : ByteArray := prog_11_method_13_code
def yX8_table : MethodName := ⟨RX8, "table", "()LTableTower$Pine;"⟩
def dkwX8_table_6 : List UInt8 := [167, 0, 16, 187, 0, 190, 89, 28, 29, 21, 5, 21, 6, 183, 0, 192, 176]
abbrev dktX8_table_6 : List UInt8 := dkwX8_table_6 ++ []
def dkwX8_table_5 : List UInt8 := [43, 18, 152, 182, 0, 103, 153, 0, 19, 187, 0, 187, 89, 28, 29, 21, 5, 21, 6, 183, 0, 189]
abbrev dktX8_table_5 : List UInt8 := dkwX8_table_5 ++ dktX8_table_6
def dkwX8_table_4 : List UInt8 := [176, 43, 18, 150, 182, 0, 103, 153, 0, 17, 187, 0, 184, 89, 28, 29, 21, 5, 21, 6, 183, 0, 186, 176]
abbrev dktX8_table_4 : List UInt8 := dkwX8_table_4 ++ dktX8_table_5
def dkwX8_table_3 : List UInt8 := [54, 6, 43, 18, 148, 182, 0, 103, 153, 0, 17, 187, 0, 179, 89, 28, 29, 21, 5, 21, 6, 183, 0, 181]
abbrev dktX8_table_3 : List UInt8 := dkwX8_table_3 ++ dktX8_table_4
def dkwX8_table_2 : List UInt8 := [16, 9, 182, 0, 129, 54, 5, 21, 4, 153, 0, 8, 21, 5, 116, 54, 5, 42, 3, 16, 99, 182, 0, 129]
abbrev dktX8_table_2 : List UInt8 := dkwX8_table_2 ++ dktX8_table_3
def dkwX8_table_1 : List UInt8 := [182, 0, 129, 62, 42, 18, 177, 182, 0, 112, 54, 4, 21, 4, 153, 0, 7, 42, 182, 0, 29, 42, 3]
abbrev dktX8_table_1 : List UInt8 := dkwX8_table_1 ++ dktX8_table_2
def dkwX8_table_0 : List UInt8 := [42, 180, 0, 11, 76, 42, 182, 0, 29, 42, 4, 16, 99, 182, 0, 129, 61, 42, 3, 17, 3, 231]
abbrev dktX8_table_0 : List UInt8 := dkwX8_table_0 ++ dktX8_table_1
theorem dksX8_table_0 : cX8_table.data.toList.drop 0 = dktX8_table_0 := by decide +kernel
theorem dksX8_table_1 : cX8_table.data.toList.drop 22 = dktX8_table_1 := dk_seg dksX8_table_0 22 rfl rfl
theorem dksX8_table_2 : cX8_table.data.toList.drop 45 = dktX8_table_2 := dk_seg dksX8_table_1 23 rfl rfl
theorem dksX8_table_3 : cX8_table.data.toList.drop 69 = dktX8_table_3 := dk_seg dksX8_table_2 24 rfl rfl
theorem dksX8_table_4 : cX8_table.data.toList.drop 93 = dktX8_table_4 := dk_seg dksX8_table_3 24 rfl rfl
theorem dksX8_table_5 : cX8_table.data.toList.drop 117 = dktX8_table_5 := dk_seg dksX8_table_4 24 rfl rfl
theorem dksX8_table_6 : cX8_table.data.toList.drop 139 = dktX8_table_6 := dk_seg dksX8_table_5 22 rfl rfl
theorem dX8_table_0 : decode cX8_table 0 = .ok (.aload_n 0, 1) := dk_42 (dk_at dksX8_table_0 0 rfl rfl)
theorem dX8_table_1 : decode cX8_table 1 = .ok (.getfield 11, 3) := dk_180 0 11 (dk_at dksX8_table_0 1 rfl rfl)
theorem dX8_table_4 : decode cX8_table 4 = .ok (.astore_n 1, 1) := dk_76 (dk_at dksX8_table_0 4 rfl rfl)
theorem dX8_table_5 : decode cX8_table 5 = .ok (.aload_n 0, 1) := dk_42 (dk_at dksX8_table_0 5 rfl rfl)
theorem dX8_table_6 : decode cX8_table 6 = .ok (.invokevirtual 29, 3) := dk_182 0 29 (dk_at dksX8_table_0 6 rfl rfl)
theorem dX8_table_9 : decode cX8_table 9 = .ok (.aload_n 0, 1) := dk_42 (dk_at dksX8_table_0 9 rfl rfl)
theorem dX8_table_10 : decode cX8_table 10 = .ok (.iconst 1, 1) := dk_4 (dk_at dksX8_table_0 10 rfl rfl)
theorem dX8_table_11 : decode cX8_table 11 = .ok (.bipush 99, 2) := dk_16 99 (dk_at dksX8_table_0 11 rfl rfl)
theorem dX8_table_13 : decode cX8_table 13 = .ok (.invokevirtual 129, 3) := dk_182 0 129 (dk_at dksX8_table_0 13 rfl rfl)
theorem dX8_table_16 : decode cX8_table 16 = .ok (.istore_n 2, 1) := dk_61 (dk_at dksX8_table_0 16 rfl rfl)
theorem dX8_table_17 : decode cX8_table 17 = .ok (.aload_n 0, 1) := dk_42 (dk_at dksX8_table_0 17 rfl rfl)
theorem dX8_table_18 : decode cX8_table 18 = .ok (.iconst 0, 1) := dk_3 (dk_at dksX8_table_0 18 rfl rfl)
theorem dX8_table_19 : decode cX8_table 19 = .ok (.sipush 999, 3) := dk_17 3 231 (dk_at dksX8_table_0 19 rfl rfl)
theorem dX8_table_22 : decode cX8_table 22 = .ok (.invokevirtual 129, 3) := dk_182 0 129 (dk_at dksX8_table_1 0 rfl rfl)
theorem dX8_table_25 : decode cX8_table 25 = .ok (.istore_n 3, 1) := dk_62 (dk_at dksX8_table_1 3 rfl rfl)
theorem dX8_table_26 : decode cX8_table 26 = .ok (.aload_n 0, 1) := dk_42 (dk_at dksX8_table_1 4 rfl rfl)
theorem dX8_table_27 : decode cX8_table 27 = .ok (.ldc 177, 2) := dk_18 177 (dk_at dksX8_table_1 5 rfl rfl)
theorem dX8_table_29 : decode cX8_table 29 = .ok (.invokevirtual 112, 3) := dk_182 0 112 (dk_at dksX8_table_1 7 rfl rfl)
theorem dX8_table_32 : decode cX8_table 32 = .ok (.istore 4, 2) := dk_54 4 (dk_at dksX8_table_1 10 rfl rfl)
theorem dX8_table_34 : decode cX8_table 34 = .ok (.iload 4, 2) := dk_21 4 (dk_at dksX8_table_1 12 rfl rfl)
theorem dX8_table_36 : decode cX8_table 36 = .ok (.ifCond .eq 7, 3) := dk_153 0 7 (dk_at dksX8_table_1 14 rfl rfl)
theorem dX8_table_39 : decode cX8_table 39 = .ok (.aload_n 0, 1) := dk_42 (dk_at dksX8_table_1 17 rfl rfl)
theorem dX8_table_40 : decode cX8_table 40 = .ok (.invokevirtual 29, 3) := dk_182 0 29 (dk_at dksX8_table_1 18 rfl rfl)
theorem dX8_table_43 : decode cX8_table 43 = .ok (.aload_n 0, 1) := dk_42 (dk_at dksX8_table_1 21 rfl rfl)
theorem dX8_table_44 : decode cX8_table 44 = .ok (.iconst 0, 1) := dk_3 (dk_at dksX8_table_1 22 rfl rfl)
theorem dX8_table_45 : decode cX8_table 45 = .ok (.bipush 9, 2) := dk_16 9 (dk_at dksX8_table_2 0 rfl rfl)
theorem dX8_table_47 : decode cX8_table 47 = .ok (.invokevirtual 129, 3) := dk_182 0 129 (dk_at dksX8_table_2 2 rfl rfl)
theorem dX8_table_50 : decode cX8_table 50 = .ok (.istore 5, 2) := dk_54 5 (dk_at dksX8_table_2 5 rfl rfl)
theorem dX8_table_52 : decode cX8_table 52 = .ok (.iload 4, 2) := dk_21 4 (dk_at dksX8_table_2 7 rfl rfl)
theorem dX8_table_54 : decode cX8_table 54 = .ok (.ifCond .eq 8, 3) := dk_153 0 8 (dk_at dksX8_table_2 9 rfl rfl)
theorem dX8_table_57 : decode cX8_table 57 = .ok (.iload 5, 2) := dk_21 5 (dk_at dksX8_table_2 12 rfl rfl)
theorem dX8_table_59 : decode cX8_table 59 = .ok (.ineg, 1) := dk_116 (dk_at dksX8_table_2 14 rfl rfl)
theorem dX8_table_60 : decode cX8_table 60 = .ok (.istore 5, 2) := dk_54 5 (dk_at dksX8_table_2 15 rfl rfl)
theorem dX8_table_62 : decode cX8_table 62 = .ok (.aload_n 0, 1) := dk_42 (dk_at dksX8_table_2 17 rfl rfl)
theorem dX8_table_63 : decode cX8_table 63 = .ok (.iconst 0, 1) := dk_3 (dk_at dksX8_table_2 18 rfl rfl)
theorem dX8_table_64 : decode cX8_table 64 = .ok (.bipush 99, 2) := dk_16 99 (dk_at dksX8_table_2 19 rfl rfl)
theorem dX8_table_66 : decode cX8_table 66 = .ok (.invokevirtual 129, 3) := dk_182 0 129 (dk_at dksX8_table_2 21 rfl rfl)
theorem dX8_table_69 : decode cX8_table 69 = .ok (.istore 6, 2) := dk_54 6 (dk_at dksX8_table_3 0 rfl rfl)
theorem dX8_table_71 : decode cX8_table 71 = .ok (.aload_n 1, 1) := dk_43 (dk_at dksX8_table_3 2 rfl rfl)
theorem dX8_table_72 : decode cX8_table 72 = .ok (.ldc 148, 2) := dk_18 148 (dk_at dksX8_table_3 3 rfl rfl)
theorem dX8_table_74 : decode cX8_table 74 = .ok (.invokevirtual 103, 3) := dk_182 0 103 (dk_at dksX8_table_3 5 rfl rfl)
theorem dX8_table_77 : decode cX8_table 77 = .ok (.ifCond .eq 17, 3) := dk_153 0 17 (dk_at dksX8_table_3 8 rfl rfl)
theorem dX8_table_80 : decode cX8_table 80 = .ok (.new 179, 3) := dk_187 0 179 (dk_at dksX8_table_3 11 rfl rfl)
theorem dX8_table_83 : decode cX8_table 83 = .ok (.dup, 1) := dk_89 (dk_at dksX8_table_3 14 rfl rfl)
theorem dX8_table_84 : decode cX8_table 84 = .ok (.iload_n 2, 1) := dk_28 (dk_at dksX8_table_3 15 rfl rfl)
theorem dX8_table_85 : decode cX8_table 85 = .ok (.iload_n 3, 1) := dk_29 (dk_at dksX8_table_3 16 rfl rfl)
theorem dX8_table_86 : decode cX8_table 86 = .ok (.iload 5, 2) := dk_21 5 (dk_at dksX8_table_3 17 rfl rfl)
theorem dX8_table_88 : decode cX8_table 88 = .ok (.iload 6, 2) := dk_21 6 (dk_at dksX8_table_3 19 rfl rfl)
theorem dX8_table_90 : decode cX8_table 90 = .ok (.invokespecial 181, 3) := dk_183 0 181 (dk_at dksX8_table_3 21 rfl rfl)
theorem dX8_table_93 : decode cX8_table 93 = .ok (.areturn, 1) := dk_176 (dk_at dksX8_table_4 0 rfl rfl)
theorem dX8_table_94 : decode cX8_table 94 = .ok (.aload_n 1, 1) := dk_43 (dk_at dksX8_table_4 1 rfl rfl)
theorem dX8_table_95 : decode cX8_table 95 = .ok (.ldc 150, 2) := dk_18 150 (dk_at dksX8_table_4 2 rfl rfl)
theorem dX8_table_97 : decode cX8_table 97 = .ok (.invokevirtual 103, 3) := dk_182 0 103 (dk_at dksX8_table_4 4 rfl rfl)
theorem dX8_table_100 : decode cX8_table 100 = .ok (.ifCond .eq 17, 3) := dk_153 0 17 (dk_at dksX8_table_4 7 rfl rfl)
theorem dX8_table_103 : decode cX8_table 103 = .ok (.new 184, 3) := dk_187 0 184 (dk_at dksX8_table_4 10 rfl rfl)
theorem dX8_table_106 : decode cX8_table 106 = .ok (.dup, 1) := dk_89 (dk_at dksX8_table_4 13 rfl rfl)
theorem dX8_table_107 : decode cX8_table 107 = .ok (.iload_n 2, 1) := dk_28 (dk_at dksX8_table_4 14 rfl rfl)
theorem dX8_table_108 : decode cX8_table 108 = .ok (.iload_n 3, 1) := dk_29 (dk_at dksX8_table_4 15 rfl rfl)
theorem dX8_table_109 : decode cX8_table 109 = .ok (.iload 5, 2) := dk_21 5 (dk_at dksX8_table_4 16 rfl rfl)
theorem dX8_table_111 : decode cX8_table 111 = .ok (.iload 6, 2) := dk_21 6 (dk_at dksX8_table_4 18 rfl rfl)
theorem dX8_table_113 : decode cX8_table 113 = .ok (.invokespecial 186, 3) := dk_183 0 186 (dk_at dksX8_table_4 20 rfl rfl)
theorem dX8_table_116 : decode cX8_table 116 = .ok (.areturn, 1) := dk_176 (dk_at dksX8_table_4 23 rfl rfl)
theorem dX8_table_117 : decode cX8_table 117 = .ok (.aload_n 1, 1) := dk_43 (dk_at dksX8_table_5 0 rfl rfl)
theorem dX8_table_118 : decode cX8_table 118 = .ok (.ldc 152, 2) := dk_18 152 (dk_at dksX8_table_5 1 rfl rfl)
theorem dX8_table_120 : decode cX8_table 120 = .ok (.invokevirtual 103, 3) := dk_182 0 103 (dk_at dksX8_table_5 3 rfl rfl)
theorem dX8_table_123 : decode cX8_table 123 = .ok (.ifCond .eq 19, 3) := dk_153 0 19 (dk_at dksX8_table_5 6 rfl rfl)
theorem dX8_table_126 : decode cX8_table 126 = .ok (.new 187, 3) := dk_187 0 187 (dk_at dksX8_table_5 9 rfl rfl)
theorem dX8_table_129 : decode cX8_table 129 = .ok (.dup, 1) := dk_89 (dk_at dksX8_table_5 12 rfl rfl)
theorem dX8_table_130 : decode cX8_table 130 = .ok (.iload_n 2, 1) := dk_28 (dk_at dksX8_table_5 13 rfl rfl)
theorem dX8_table_131 : decode cX8_table 131 = .ok (.iload_n 3, 1) := dk_29 (dk_at dksX8_table_5 14 rfl rfl)
theorem dX8_table_132 : decode cX8_table 132 = .ok (.iload 5, 2) := dk_21 5 (dk_at dksX8_table_5 15 rfl rfl)
theorem dX8_table_134 : decode cX8_table 134 = .ok (.iload 6, 2) := dk_21 6 (dk_at dksX8_table_5 17 rfl rfl)
theorem dX8_table_136 : decode cX8_table 136 = .ok (.invokespecial 189, 3) := dk_183 0 189 (dk_at dksX8_table_5 19 rfl rfl)
theorem dX8_table_139 : decode cX8_table 139 = .ok (.goto 16, 3) := dk_167 0 16 (dk_at dksX8_table_6 0 rfl rfl)
theorem dX8_table_142 : decode cX8_table 142 = .ok (.new 190, 3) := dk_187 0 190 (dk_at dksX8_table_6 3 rfl rfl)
theorem dX8_table_145 : decode cX8_table 145 = .ok (.dup, 1) := dk_89 (dk_at dksX8_table_6 6 rfl rfl)
theorem dX8_table_146 : decode cX8_table 146 = .ok (.iload_n 2, 1) := dk_28 (dk_at dksX8_table_6 7 rfl rfl)
theorem dX8_table_147 : decode cX8_table 147 = .ok (.iload_n 3, 1) := dk_29 (dk_at dksX8_table_6 8 rfl rfl)
theorem dX8_table_148 : decode cX8_table 148 = .ok (.iload 5, 2) := dk_21 5 (dk_at dksX8_table_6 9 rfl rfl)
theorem dX8_table_150 : decode cX8_table 150 = .ok (.iload 6, 2) := dk_21 6 (dk_at dksX8_table_6 11 rfl rfl)
theorem dX8_table_152 : decode cX8_table 152 = .ok (.invokespecial 192, 3) := dk_183 0 192 (dk_at dksX8_table_6 13 rfl rfl)
theorem dX8_table_155 : decode cX8_table 155 = .ok (.areturn, 1) := dk_176 (dk_at dksX8_table_6 16 rfl rfl)
theorem q135 : (Jvm.Cond.initialized "TableTower$Reader") ∈ lw_all := lw_g (lw_at lw_m1 29 rfl) rfl
theorem q527 : (Jvm.Cond.fieldLinkNest "TableTower$Reader" (133 : Nat) "TableTower$Town" "limit" "I" "TableTower") ∈ lw_tbl := lw_at lw_m2 181 rfl
theorem q530 : (Jvm.Cond.fieldLinkNest "TableTower$Reader" (137 : Nat) "TableTower$Town" "food" "I" "TableTower") ∈ lw_tbl := lw_at lw_m2 184 rfl
theorem q535 : (Jvm.Cond.fieldLinkNest "TableTower$Reader" (156 : Nat) "TableTower$Town" "tables" "Ljava/util/ArrayList;" "TableTower") ∈ lw_tbl := lw_at lw_m2 189 rfl
theorem q537 : (Jvm.Cond.fieldLinkNest "TableTower$Reader" (145 : Nat) "TableTower$Town" "takes" "LTableTower$Expr;" "TableTower") ∈ lw_tbl := lw_at lw_m2 191 rfl
theorem q627 : (Jvm.Cond.selects "TableTower$Reader" ({ cls := "java/lang/Object", name := "getClass", desc := "()Ljava/lang/Class;" } : Jvm.MethodName) ({ cls := "java/lang/Object", name := "getClass", desc := "()Ljava/lang/Class;" } : Jvm.MethodName)) ∈ lw_all := lw_g (lw_at lw_m3 41 rfl) rfl
theorem q1153 : (Jvm.Cond.instantiable "TableTower$Reader" (9 : Nat)) ∈ lw_all := lw_g (lw_at lw_m5 87 rfl) rfl
theorem q1155 : (Jvm.Cond.instanceMethod ({ cls := "TableTower$Reader", name := "<init>", desc := "([BI)V" } : Jvm.MethodName)) ∈ lw_all := lw_g (lw_at lw_m5 89 rfl) rfl
theorem q1156 : (Jvm.Cond.code ({ cls := "TableTower$Reader", name := "<init>", desc := "([BI)V" } : Jvm.MethodName) prog_11_method_1_code (3 : Nat) (Option.none : Option Jvm.ClassFile.FieldType)) ∈ lw_all := lw_g (lw_at lw_m5 90 rfl) rfl
theorem q1157 : (Jvm.Cond.methodLink "TableTower$Reader" (3 : Nat) ({ cls := "java/lang/Object", name := "<init>", desc := "()V" } : Jvm.MethodName)) ∈ lw_all := lw_g (lw_at lw_m5 91 rfl) rfl
theorem q1158 : (Jvm.Cond.stringRef "TableTower$Reader" (9 : Nat) "") ∈ lw_tbl := lw_at lw_m5 92 rfl
theorem q1159 : (Jvm.Cond.methodLink "TableTower$Reader" (29 : Nat) ({ cls := "TableTower$Reader", name := "go", desc := "()V" } : Jvm.MethodName)) ∈ lw_all := lw_g (lw_at lw_m5 93 rfl) rfl
theorem q1160 : (Jvm.Cond.privateMethod ({ cls := "TableTower$Reader", name := "go", desc := "()V" } : Jvm.MethodName)) ∈ lw_tbl := lw_at lw_m5 94 rfl
theorem q1161 : (Jvm.Cond.instanceMethod ({ cls := "TableTower$Reader", name := "go", desc := "()V" } : Jvm.MethodName)) ∈ lw_all := lw_g (lw_at lw_m5 95 rfl) rfl
theorem q1162 : (Jvm.Cond.code ({ cls := "TableTower$Reader", name := "go", desc := "()V" } : Jvm.MethodName) prog_11_method_6_code (3 : Nat) (Option.none : Option Jvm.ClassFile.FieldType)) ∈ lw_all := lw_g (lw_at lw_m5 96 rfl) rfl
theorem q1163 : (Jvm.Cond.methodLink "TableTower$Reader" (35 : Nat) ({ cls := "TableTower$Reader", name := "byteAt", desc := "(I)I" } : Jvm.MethodName)) ∈ lw_all := lw_g (lw_at lw_m5 97 rfl) rfl
theorem q1164 : (Jvm.Cond.privateMethod ({ cls := "TableTower$Reader", name := "byteAt", desc := "(I)I" } : Jvm.MethodName)) ∈ lw_tbl := lw_at lw_m5 98 rfl
theorem q1165 : (Jvm.Cond.instanceMethod ({ cls := "TableTower$Reader", name := "byteAt", desc := "(I)I" } : Jvm.MethodName)) ∈ lw_all := lw_g (lw_at lw_m5 99 rfl) rfl
theorem q1166 : (Jvm.Cond.code ({ cls := "TableTower$Reader", name := "byteAt", desc := "(I)I" } : Jvm.MethodName) prog_11_method_2_code (2 : Nat) (Option.some Jvm.ClassFile.FieldType.int)) ∈ lw_all := lw_g (lw_at lw_m5 100 rfl) rfl
theorem q1167 : (Jvm.Cond.fieldLink "TableTower$Reader" (46 : Nat) "TableTower$Sort" "END" "LTableTower$Sort;") ∈ lw_all := lw_g (lw_at lw_m5 101 rfl) rfl
theorem q1169 : (Jvm.Cond.methodLink "TableTower$Reader" (55 : Nat) ({ cls := "TableTower$Reader", name := "isLetter", desc := "(I)Z" } : Jvm.MethodName)) ∈ lw_all := lw_g (lw_at lw_m5 103 rfl) rfl
theorem q1170 : (Jvm.Cond.static ({ cls := "TableTower$Reader", name := "isLetter", desc := "(I)Z" } : Jvm.MethodName)) ∈ lw_all := lw_g (lw_at lw_m5 104 rfl) rfl
theorem q1171 : (Jvm.Cond.code ({ cls := "TableTower$Reader", name := "isLetter", desc := "(I)Z" } : Jvm.MethodName) prog_11_method_3_code (1 : Nat) (Option.some Jvm.ClassFile.FieldType.boolean)) ∈ lw_all := lw_g (lw_at lw_m5 105 rfl) rfl
theorem q1172 : (Jvm.Cond.classLink "TableTower$Reader" (59 : Nat) "java/lang/StringBuilder") ∈ lw_all := lw_g (lw_at lw_m5 106 rfl) rfl
theorem q1173 : (Jvm.Cond.methodLink "TableTower$Reader" (61 : Nat) ({ cls := "java/lang/StringBuilder", name := "<init>", desc := "(I)V" } : Jvm.MethodName)) ∈ lw_all := lw_g (lw_at lw_m5 107 rfl) rfl
theorem q1176 : (Jvm.Cond.methodLink "TableTower$Reader" (64 : Nat) ({ cls := "java/lang/StringBuilder", name := "length", desc := "()I" } : Jvm.MethodName)) ∈ lw_all := lw_g (lw_at lw_m5 110 rfl) rfl
theorem q1177 : (Jvm.Cond.methodLink "TableTower$Reader" (68 : Nat) ({ cls := "java/lang/StringBuilder", name := "append", desc := "(C)Ljava/lang/StringBuilder;" } : Jvm.MethodName)) ∈ lw_all := lw_g (lw_at lw_m5 111 rfl) rfl
theorem q1197 : (Jvm.Cond.methodLink "TableTower$Reader" (72 : Nat) ({ cls := "java/lang/StringBuilder", name := "toString", desc := "()Ljava/lang/String;" } : Jvm.MethodName)) ∈ lw_all := lw_g (lw_at lw_m5 131 rfl) rfl
theorem q1198 : (Jvm.Cond.fieldLink "TableTower$Reader" (76 : Nat) "TableTower$Sort" "WORD" "LTableTower$Sort;") ∈ lw_all := lw_g (lw_at lw_m5 132 rfl) rfl
theorem q1200 : (Jvm.Cond.methodLink "TableTower$Reader" (79 : Nat) ({ cls := "TableTower$Reader", name := "isDigit", desc := "(I)Z" } : Jvm.MethodName)) ∈ lw_all := lw_g (lw_at lw_m5 134 rfl) rfl
theorem q1201 : (Jvm.Cond.static ({ cls := "TableTower$Reader", name := "isDigit", desc := "(I)Z" } : Jvm.MethodName)) ∈ lw_all := lw_g (lw_at lw_m5 135 rfl) rfl
theorem q1202 : (Jvm.Cond.code ({ cls := "TableTower$Reader", name := "isDigit", desc := "(I)Z" } : Jvm.MethodName) prog_11_method_4_code (1 : Nat) (Option.some Jvm.ClassFile.FieldType.boolean)) ∈ lw_all := lw_g (lw_at lw_m5 136 rfl) rfl
theorem q1203 : (Jvm.Cond.fieldLink "TableTower$Reader" (85 : Nat) "TableTower$Sort" "NUMBER" "LTableTower$Sort;") ∈ lw_all := lw_g (lw_at lw_m5 137 rfl) rfl
theorem q1205 : (Jvm.Cond.methodLink "TableTower$Reader" (88 : Nat) ({ cls := "TableTower$Reader", name := "isSign", desc := "(I)Z" } : Jvm.MethodName)) ∈ lw_all := lw_g (lw_at lw_m5 139 rfl) rfl
theorem q1206 : (Jvm.Cond.static ({ cls := "TableTower$Reader", name := "isSign", desc := "(I)Z" } : Jvm.MethodName)) ∈ lw_all := lw_g (lw_at lw_m5 140 rfl) rfl
theorem q1207 : (Jvm.Cond.code ({ cls := "TableTower$Reader", name := "isSign", desc := "(I)Z" } : Jvm.MethodName) prog_11_method_5_code (1 : Nat) (Option.some Jvm.ClassFile.FieldType.boolean)) ∈ lw_all := lw_g (lw_at lw_m5 141 rfl) rfl
theorem q1208 : (Jvm.Cond.fieldLink "TableTower$Reader" (91 : Nat) "TableTower$Sort" "SIGN" "LTableTower$Sort;") ∈ lw_all := lw_g (lw_at lw_m5 142 rfl) rfl
theorem q1210 : (Jvm.Cond.fieldLink "TableTower$Reader" (94 : Nat) "TableTower$Sort" "BAD" "LTableTower$Sort;") ∈ lw_all := lw_g (lw_at lw_m5 144 rfl) rfl
theorem q1212 : (Jvm.Cond.methodLink "TableTower$Reader" (97 : Nat) ({ cls := "java/lang/String", name := "valueOf", desc := "(C)Ljava/lang/String;" } : Jvm.MethodName)) ∈ lw_all := lw_g (lw_at lw_m5 146 rfl) rfl
theorem q1226 : (Jvm.Cond.fieldLink "TableTower$Reader" (21 : Nat) "TableTower$Reader" "text" "[B") ∈ lw_all := lw_g (lw_at lw_m5 160 rfl) rfl
theorem q1227 : (Jvm.Cond.fieldLink "TableTower$Reader" (25 : Nat) "TableTower$Reader" "size" "I") ∈ lw_all := lw_g (lw_at lw_m5 161 rfl) rfl
theorem q1228 : (Jvm.Cond.fieldLink "TableTower$Reader" (32 : Nat) "TableTower$Reader" "next" "I") ∈ lw_all := lw_g (lw_at lw_m5 162 rfl) rfl
theorem q1229 : (Jvm.Cond.fieldLink "TableTower$Reader" (39 : Nat) "TableTower$Reader" "place" "I") ∈ lw_all := lw_g (lw_at lw_m5 163 rfl) rfl
theorem q1230 : (Jvm.Cond.fieldLink "TableTower$Reader" (82 : Nat) "TableTower$Reader" "value" "I") ∈ lw_all := lw_g (lw_at lw_m5 164 rfl) rfl
theorem q1231 : (Jvm.Cond.fieldLink "TableTower$Reader" (42 : Nat) "TableTower$Reader" "isLong" "Z") ∈ lw_all := lw_g (lw_at lw_m5 165 rfl) rfl
theorem q1232 : (Jvm.Cond.fieldLink "TableTower$Reader" (52 : Nat) "TableTower$Reader" "sort" "LTableTower$Sort;") ∈ lw_all := lw_g (lw_at lw_m5 166 rfl) rfl
theorem q1233 : (Jvm.Cond.fieldLink "TableTower$Reader" (11 : Nat) "TableTower$Reader" "word" "Ljava/lang/String;") ∈ lw_all := lw_g (lw_at lw_m5 167 rfl) rfl
theorem q1234 : (Jvm.Cond.fieldLink "TableTower$Reader" (17 : Nat) "TableTower$Reader" "has" "[Z") ∈ lw_all := lw_g (lw_at lw_m5 168 rfl) rfl
theorem q1235 : (Jvm.Cond.laysFinal "TableTower$Reader" "TableTower$Reader" "text" "[B") ∈ lw_all := lw_g (lw_at lw_m5 169 rfl) rfl
theorem q1236 : (Jvm.Cond.soleField "TableTower$Reader" "text") ∈ lw_all := lw_g (lw_at lw_m5 170 rfl) rfl
theorem q1237 : (Jvm.Cond.laysFinal "TableTower$Reader" "TableTower$Reader" "size" "I") ∈ lw_all := lw_g (lw_at lw_m5 171 rfl) rfl
theorem q1238 : (Jvm.Cond.soleField "TableTower$Reader" "size") ∈ lw_all := lw_g (lw_at lw_m5 172 rfl) rfl
theorem q1239 : (Jvm.Cond.lays "TableTower$Reader" "TableTower$Reader" "next" "I") ∈ lw_all := lw_g (lw_at lw_m5 173 rfl) rfl
theorem q1240 : (Jvm.Cond.soleField "TableTower$Reader" "next") ∈ lw_all := lw_g (lw_at lw_m5 174 rfl) rfl
theorem q1241 : (Jvm.Cond.lays "TableTower$Reader" "TableTower$Reader" "place" "I") ∈ lw_all := lw_g (lw_at lw_m5 175 rfl) rfl
theorem q1242 : (Jvm.Cond.soleField "TableTower$Reader" "place") ∈ lw_all := lw_g (lw_at lw_m5 176 rfl) rfl
theorem q1243 : (Jvm.Cond.lays "TableTower$Reader" "TableTower$Reader" "value" "I") ∈ lw_all := lw_g (lw_at lw_m5 177 rfl) rfl
theorem q1244 : (Jvm.Cond.soleField "TableTower$Reader" "value") ∈ lw_all := lw_g (lw_at lw_m5 178 rfl) rfl
theorem q1245 : (Jvm.Cond.lays "TableTower$Reader" "TableTower$Reader" "isLong" "Z") ∈ lw_all := lw_g (lw_at lw_m5 179 rfl) rfl
theorem q1246 : (Jvm.Cond.soleField "TableTower$Reader" "isLong") ∈ lw_all := lw_g (lw_at lw_m5 180 rfl) rfl
theorem q1247 : (Jvm.Cond.lays "TableTower$Reader" "TableTower$Reader" "sort" "LTableTower$Sort;") ∈ lw_all := lw_g (lw_at lw_m5 181 rfl) rfl
theorem q1248 : (Jvm.Cond.soleField "TableTower$Reader" "sort") ∈ lw_all := lw_g (lw_at lw_m5 182 rfl) rfl
theorem q1249 : (Jvm.Cond.lays "TableTower$Reader" "TableTower$Reader" "word" "Ljava/lang/String;") ∈ lw_all := lw_g (lw_at lw_m5 183 rfl) rfl
theorem q1250 : (Jvm.Cond.soleField "TableTower$Reader" "word") ∈ lw_all := lw_g (lw_at lw_m5 184 rfl) rfl
theorem q1251 : (Jvm.Cond.laysFinal "TableTower$Reader" "TableTower$Reader" "has" "[Z") ∈ lw_all := lw_g (lw_at lw_m5 185 rfl) rfl
theorem q1252 : (Jvm.Cond.soleField "TableTower$Reader" "has") ∈ lw_all := lw_g (lw_at lw_m5 186 rfl) rfl
theorem q1253 : (Jvm.Cond.superclass "TableTower$Reader" "java/lang/Object") ∈ lw_all := lw_g (lw_at lw_m5 187 rfl) rfl
theorem q1255 : (Jvm.Cond.instanceMethod ({ cls := "TableTower$Reader", name := "town", desc := "()LTableTower$Town;" } : Jvm.MethodName)) ∈ lw_all := lw_g (lw_at lw_m5 189 rfl) rfl
theorem q1256 : (Jvm.Cond.selects "TableTower$Reader" ({ cls := "TableTower$Reader", name := "town", desc := "()LTableTower$Town;" } : Jvm.MethodName) ({ cls := "TableTower$Reader", name := "town", desc := "()LTableTower$Town;" } : Jvm.MethodName)) ∈ lw_all := lw_g (lw_at lw_m5 190 rfl) rfl
theorem q1257 : (Jvm.Cond.code ({ cls := "TableTower$Reader", name := "town", desc := "()LTableTower$Town;" } : Jvm.MethodName) prog_11_method_12_code (2 : Nat) (Option.some (Jvm.ClassFile.FieldType.object "TableTower$Town"))) ∈ lw_all := lw_g (lw_at lw_m5 191 rfl) rfl
theorem q1258 : (Jvm.Cond.classLink "TableTower$Reader" (120 : Nat) "TableTower$Town") ∈ lw_all := lw_g (lw_at lw_m5 192 rfl) rfl
theorem q1259 : (Jvm.Cond.methodLinkNest "TableTower$Reader" (122 : Nat) ({ cls := "TableTower$Town", name := "<init>", desc := "()V" } : Jvm.MethodName) "TableTower") ∈ lw_tbl := lw_at lw_m5 193 rfl
theorem q1260 : (Jvm.Cond.stringRef "TableTower$Reader" (123 : Nat) "limit") ∈ lw_tbl := lw_at lw_m5 194 rfl
theorem q1261 : (Jvm.Cond.methodLink "TableTower$Reader" (125 : Nat) ({ cls := "TableTower$Reader", name := "begins", desc := "(Ljava/lang/String;I)Z" } : Jvm.MethodName)) ∈ lw_all := lw_g (lw_at lw_m5 195 rfl) rfl
theorem q1262 : (Jvm.Cond.privateMethod ({ cls := "TableTower$Reader", name := "begins", desc := "(Ljava/lang/String;I)Z" } : Jvm.MethodName)) ∈ lw_tbl := lw_at lw_m5 196 rfl
theorem q1263 : (Jvm.Cond.instanceMethod ({ cls := "TableTower$Reader", name := "begins", desc := "(Ljava/lang/String;I)Z" } : Jvm.MethodName)) ∈ lw_all := lw_g (lw_at lw_m5 197 rfl) rfl
theorem q1264 : (Jvm.Cond.code ({ cls := "TableTower$Reader", name := "begins", desc := "(Ljava/lang/String;I)Z" } : Jvm.MethodName) prog_11_method_11_code (3 : Nat) (Option.some Jvm.ClassFile.FieldType.boolean)) ∈ lw_all := lw_g (lw_at lw_m5 198 rfl) rfl
theorem q1265 : (Jvm.Cond.methodLink "TableTower$Reader" (112 : Nat) ({ cls := "TableTower$Reader", name := "is", desc := "(Ljava/lang/String;)Z" } : Jvm.MethodName)) ∈ lw_all := lw_g (lw_at lw_m5 199 rfl) rfl
theorem q1266 : (Jvm.Cond.privateMethod ({ cls := "TableTower$Reader", name := "is", desc := "(Ljava/lang/String;)Z" } : Jvm.MethodName)) ∈ lw_tbl := lw_at lw_m5 200 rfl
theorem q1267 : (Jvm.Cond.instanceMethod ({ cls := "TableTower$Reader", name := "is", desc := "(Ljava/lang/String;)Z" } : Jvm.MethodName)) ∈ lw_all := lw_g (lw_at lw_m5 201 rfl) rfl
theorem q1268 : (Jvm.Cond.code ({ cls := "TableTower$Reader", name := "is", desc := "(Ljava/lang/String;)Z" } : Jvm.MethodName) prog_11_method_7_code (2 : Nat) (Option.some Jvm.ClassFile.FieldType.boolean)) ∈ lw_all := lw_g (lw_at lw_m5 202 rfl) rfl
theorem q1269 : (Jvm.Cond.methodLink "TableTower$Reader" (103 : Nat) ({ cls := "java/lang/String", name := "equals", desc := "(Ljava/lang/Object;)Z" } : Jvm.MethodName)) ∈ lw_all := lw_g (lw_at lw_m5 203 rfl) rfl
theorem q1276 : (Jvm.Cond.methodLink "TableTower$Reader" (116 : Nat) ({ cls := "TableTower$Reader", name := "check", desc := "(ZI)V" } : Jvm.MethodName)) ∈ lw_all := lw_g (lw_at lw_m5 210 rfl) rfl
theorem q1277 : (Jvm.Cond.privateMethod ({ cls := "TableTower$Reader", name := "check", desc := "(ZI)V" } : Jvm.MethodName)) ∈ lw_tbl := lw_at lw_m5 211 rfl
theorem q1278 : (Jvm.Cond.instanceMethod ({ cls := "TableTower$Reader", name := "check", desc := "(ZI)V" } : Jvm.MethodName)) ∈ lw_all := lw_g (lw_at lw_m5 212 rfl) rfl
theorem q1279 : (Jvm.Cond.code ({ cls := "TableTower$Reader", name := "check", desc := "(ZI)V" } : Jvm.MethodName) prog_11_method_8_code (3 : Nat) (Option.none : Option Jvm.ClassFile.FieldType)) ∈ lw_all := lw_g (lw_at lw_m5 213 rfl) rfl
theorem q1280 : (Jvm.Cond.classLink "TableTower$Reader" (107 : Nat) "TableTower$Fault") ∈ lw_all := lw_g (lw_at lw_m5 214 rfl) rfl
theorem q1289 : (Jvm.Cond.methodLink "TableTower$Reader" (109 : Nat) ({ cls := "TableTower$Fault", name := "<init>", desc := "(II)V" } : Jvm.MethodName)) ∈ lw_all := lw_g (lw_at lw_m5 223 rfl) rfl
theorem q1303 : (Jvm.Cond.methodLink "TableTower$Reader" (129 : Nat) ({ cls := "TableTower$Reader", name := "number", desc := "(II)I" } : Jvm.MethodName)) ∈ lw_all := lw_g (lw_at lw_m5 237 rfl) rfl
theorem q1304 : (Jvm.Cond.privateMethod ({ cls := "TableTower$Reader", name := "number", desc := "(II)I" } : Jvm.MethodName)) ∈ lw_tbl := lw_at lw_m5 238 rfl
theorem q1305 : (Jvm.Cond.instanceMethod ({ cls := "TableTower$Reader", name := "number", desc := "(II)I" } : Jvm.MethodName)) ∈ lw_all := lw_g (lw_at lw_m5 239 rfl) rfl
theorem q1306 : (Jvm.Cond.code ({ cls := "TableTower$Reader", name := "number", desc := "(II)I" } : Jvm.MethodName) prog_11_method_10_code (4 : Nat) (Option.some Jvm.ClassFile.FieldType.int)) ∈ lw_all := lw_g (lw_at lw_m6 0 rfl) rfl
theorem q1307 : (Jvm.Cond.stringRef "TableTower$Reader" (135 : Nat) "food") ∈ lw_tbl := lw_at lw_m6 1 rfl
theorem q1308 : (Jvm.Cond.stringRef "TableTower$Reader" (139 : Nat) "takes") ∈ lw_tbl := lw_at lw_m6 2 rfl
theorem q1309 : (Jvm.Cond.methodLink "TableTower$Reader" (141 : Nat) ({ cls := "TableTower$Reader", name := "expr", desc := "(I)LTableTower$Expr;" } : Jvm.MethodName)) ∈ lw_all := lw_g (lw_at lw_m6 3 rfl) rfl
theorem q1310 : (Jvm.Cond.privateMethod ({ cls := "TableTower$Reader", name := "expr", desc := "(I)LTableTower$Expr;" } : Jvm.MethodName)) ∈ lw_tbl := lw_at lw_m6 4 rfl
theorem q1311 : (Jvm.Cond.instanceMethod ({ cls := "TableTower$Reader", name := "expr", desc := "(I)LTableTower$Expr;" } : Jvm.MethodName)) ∈ lw_all := lw_g (lw_at lw_m6 5 rfl) rfl
theorem q1312 : (Jvm.Cond.code ({ cls := "TableTower$Reader", name := "expr", desc := "(I)LTableTower$Expr;" } : Jvm.MethodName) prog_11_method_14_code (3 : Nat) (Option.some (Jvm.ClassFile.FieldType.object "TableTower$Expr"))) ∈ lw_all := lw_g (lw_at lw_m6 6 rfl) rfl
theorem q1313 : (Jvm.Cond.stringRef "TableTower$Reader" (193 : Nat) "(") ∈ lw_tbl := lw_at lw_m6 7 rfl
theorem q1314 : (Jvm.Cond.methodLink "TableTower$Reader" (195 : Nat) ({ cls := "TableTower$Reader", name := "and", desc := "(I)LTableTower$Expr;" } : Jvm.MethodName)) ∈ lw_all := lw_g (lw_at lw_m6 8 rfl) rfl
theorem q1315 : (Jvm.Cond.privateMethod ({ cls := "TableTower$Reader", name := "and", desc := "(I)LTableTower$Expr;" } : Jvm.MethodName)) ∈ lw_tbl := lw_at lw_m6 9 rfl
theorem q1316 : (Jvm.Cond.instanceMethod ({ cls := "TableTower$Reader", name := "and", desc := "(I)LTableTower$Expr;" } : Jvm.MethodName)) ∈ lw_all := lw_g (lw_at lw_m6 10 rfl) rfl
theorem q1317 : (Jvm.Cond.code ({ cls := "TableTower$Reader", name := "and", desc := "(I)LTableTower$Expr;" } : Jvm.MethodName) prog_11_method_15_code (3 : Nat) (Option.some (Jvm.ClassFile.FieldType.object "TableTower$Expr"))) ∈ lw_all := lw_g (lw_at lw_m6 11 rfl) rfl
theorem q1318 : (Jvm.Cond.methodLink "TableTower$Reader" (205 : Nat) ({ cls := "TableTower$Reader", name := "not", desc := "(I)LTableTower$Expr;" } : Jvm.MethodName)) ∈ lw_all := lw_g (lw_at lw_m6 12 rfl) rfl
theorem q1319 : (Jvm.Cond.privateMethod ({ cls := "TableTower$Reader", name := "not", desc := "(I)LTableTower$Expr;" } : Jvm.MethodName)) ∈ lw_tbl := lw_at lw_m6 13 rfl
theorem q1320 : (Jvm.Cond.instanceMethod ({ cls := "TableTower$Reader", name := "not", desc := "(I)LTableTower$Expr;" } : Jvm.MethodName)) ∈ lw_all := lw_g (lw_at lw_m6 14 rfl) rfl
theorem q1321 : (Jvm.Cond.code ({ cls := "TableTower$Reader", name := "not", desc := "(I)LTableTower$Expr;" } : Jvm.MethodName) prog_11_method_16_code (5 : Nat) (Option.some (Jvm.ClassFile.FieldType.object "TableTower$Expr"))) ∈ lw_all := lw_g (lw_at lw_m6 15 rfl) rfl
theorem q1322 : (Jvm.Cond.stringRef "TableTower$Reader" (209 : Nat) "not") ∈ lw_tbl := lw_at lw_m6 16 rfl
theorem q1323 : (Jvm.Cond.methodLink "TableTower$Reader" (210 : Nat) ({ cls := "TableTower$Reader", name := "sum", desc := "(I)LTableTower$Expr;" } : Jvm.MethodName)) ∈ lw_all := lw_g (lw_at lw_m6 17 rfl) rfl
theorem q1324 : (Jvm.Cond.privateMethod ({ cls := "TableTower$Reader", name := "sum", desc := "(I)LTableTower$Expr;" } : Jvm.MethodName)) ∈ lw_tbl := lw_at lw_m6 18 rfl
theorem q1325 : (Jvm.Cond.instanceMethod ({ cls := "TableTower$Reader", name := "sum", desc := "(I)LTableTower$Expr;" } : Jvm.MethodName)) ∈ lw_all := lw_g (lw_at lw_m6 19 rfl) rfl
theorem q1326 : (Jvm.Cond.code ({ cls := "TableTower$Reader", name := "sum", desc := "(I)LTableTower$Expr;" } : Jvm.MethodName) prog_11_method_17_code (4 : Nat) (Option.some (Jvm.ClassFile.FieldType.object "TableTower$Expr"))) ∈ lw_all := lw_g (lw_at lw_m6 20 rfl) rfl
theorem q1327 : (Jvm.Cond.methodLink "TableTower$Reader" (226 : Nat) ({ cls := "TableTower$Reader", name := "product", desc := "(I)LTableTower$Expr;" } : Jvm.MethodName)) ∈ lw_all := lw_g (lw_at lw_m6 21 rfl) rfl
theorem q1328 : (Jvm.Cond.privateMethod ({ cls := "TableTower$Reader", name := "product", desc := "(I)LTableTower$Expr;" } : Jvm.MethodName)) ∈ lw_tbl := lw_at lw_m6 22 rfl
theorem q1329 : (Jvm.Cond.instanceMethod ({ cls := "TableTower$Reader", name := "product", desc := "(I)LTableTower$Expr;" } : Jvm.MethodName)) ∈ lw_all := lw_g (lw_at lw_m6 23 rfl) rfl
theorem q1330 : (Jvm.Cond.code ({ cls := "TableTower$Reader", name := "product", desc := "(I)LTableTower$Expr;" } : Jvm.MethodName) prog_11_method_18_code (4 : Nat) (Option.some (Jvm.ClassFile.FieldType.object "TableTower$Expr"))) ∈ lw_all := lw_g (lw_at lw_m6 24 rfl) rfl
theorem q1331 : (Jvm.Cond.methodLink "TableTower$Reader" (231 : Nat) ({ cls := "TableTower$Reader", name := "part", desc := "(I)LTableTower$Expr;" } : Jvm.MethodName)) ∈ lw_all := lw_g (lw_at lw_m6 25 rfl) rfl
theorem q1332 : (Jvm.Cond.privateMethod ({ cls := "TableTower$Reader", name := "part", desc := "(I)LTableTower$Expr;" } : Jvm.MethodName)) ∈ lw_tbl := lw_at lw_m6 26 rfl
theorem q1333 : (Jvm.Cond.instanceMethod ({ cls := "TableTower$Reader", name := "part", desc := "(I)LTableTower$Expr;" } : Jvm.MethodName)) ∈ lw_all := lw_g (lw_at lw_m6 27 rfl) rfl
theorem q1334 : (Jvm.Cond.code ({ cls := "TableTower$Reader", name := "part", desc := "(I)LTableTower$Expr;" } : Jvm.MethodName) prog_11_method_19_code (3 : Nat) (Option.some (Jvm.ClassFile.FieldType.object "TableTower$Expr"))) ∈ lw_all := lw_g (lw_at lw_m6 28 rfl) rfl
theorem q1335 : (Jvm.Cond.classLink "TableTower$Reader" (238 : Nat) "TableTower$Told") ∈ lw_all := lw_g (lw_at lw_m6 29 rfl) rfl
theorem q1337 : (Jvm.Cond.methodLink "TableTower$Reader" (240 : Nat) ({ cls := "TableTower$Told", name := "<init>", desc := "(I)V" } : Jvm.MethodName)) ∈ lw_all := lw_g (lw_at lw_m6 31 rfl) rfl
theorem q1348 : (Jvm.Cond.stringRef "TableTower$Reader" (241 : Nat) ")") ∈ lw_tbl := lw_at lw_m6 42 rfl
theorem q1349 : (Jvm.Cond.methodLink "TableTower$Reader" (173 : Nat) ({ cls := "TableTower$Reader", name := "need", desc := "(Ljava/lang/String;)V" } : Jvm.MethodName)) ∈ lw_all := lw_g (lw_at lw_m6 43 rfl) rfl
theorem q1350 : (Jvm.Cond.privateMethod ({ cls := "TableTower$Reader", name := "need", desc := "(Ljava/lang/String;)V" } : Jvm.MethodName)) ∈ lw_tbl := lw_at lw_m6 44 rfl
theorem q1351 : (Jvm.Cond.instanceMethod ({ cls := "TableTower$Reader", name := "need", desc := "(Ljava/lang/String;)V" } : Jvm.MethodName)) ∈ lw_all := lw_g (lw_at lw_m6 45 rfl) rfl
theorem q1352 : (Jvm.Cond.code ({ cls := "TableTower$Reader", name := "need", desc := "(Ljava/lang/String;)V" } : Jvm.MethodName) prog_11_method_9_code (2 : Nat) (Option.none : Option Jvm.ClassFile.FieldType)) ∈ lw_all := lw_g (lw_at lw_m6 46 rfl) rfl
theorem q1353 : (Jvm.Cond.methodLink "TableTower$Reader" (243 : Nat) ({ cls := "TableTower$Reader", name := "valueOf", desc := "(Ljava/lang/String;)LTableTower$Value;" } : Jvm.MethodName)) ∈ lw_all := lw_g (lw_at lw_m6 47 rfl) rfl
theorem q1354 : (Jvm.Cond.static ({ cls := "TableTower$Reader", name := "valueOf", desc := "(Ljava/lang/String;)LTableTower$Value;" } : Jvm.MethodName)) ∈ lw_all := lw_g (lw_at lw_m6 48 rfl) rfl
theorem q1355 : (Jvm.Cond.code ({ cls := "TableTower$Reader", name := "valueOf", desc := "(Ljava/lang/String;)LTableTower$Value;" } : Jvm.MethodName) prog_11_method_20_code (1 : Nat) (Option.some (Jvm.ClassFile.FieldType.object "TableTower$Value"))) ∈ lw_all := lw_g (lw_at lw_m6 49 rfl) rfl
theorem q1356 : (Jvm.Cond.stringRef "TableTower$Reader" (251 : Nat) "level") ∈ lw_tbl := lw_at lw_m6 50 rfl
theorem q1357 : (Jvm.Cond.fieldLink "TableTower$Reader" (253 : Nat) "TableTower$Value" "LEVEL" "LTableTower$Value;") ∈ lw_all := lw_g (lw_at lw_m6 51 rfl) rfl
theorem q1358 : (Jvm.Cond.stringRef "TableTower$Reader" (259 : Nat) "hunger") ∈ lw_tbl := lw_at lw_m6 52 rfl
theorem q1359 : (Jvm.Cond.fieldLink "TableTower$Reader" (261 : Nat) "TableTower$Value" "HUNGER" "LTableTower$Value;") ∈ lw_all := lw_g (lw_at lw_m6 53 rfl) rfl
theorem q1360 : (Jvm.Cond.stringRef "TableTower$Reader" (264 : Nat) "left") ∈ lw_tbl := lw_at lw_m6 54 rfl
theorem q1361 : (Jvm.Cond.fieldLink "TableTower$Reader" (266 : Nat) "TableTower$Value" "LEFT" "LTableTower$Value;") ∈ lw_all := lw_g (lw_at lw_m6 55 rfl) rfl
theorem q1362 : (Jvm.Cond.stringRef "TableTower$Reader" (269 : Nat) "kind") ∈ lw_tbl := lw_at lw_m6 56 rfl
theorem q1363 : (Jvm.Cond.fieldLink "TableTower$Reader" (271 : Nat) "TableTower$Value" "KIND" "LTableTower$Value;") ∈ lw_all := lw_g (lw_at lw_m6 57 rfl) rfl
theorem q1364 : (Jvm.Cond.stringRef "TableTower$Reader" (274 : Nat) "above") ∈ lw_tbl := lw_at lw_m6 58 rfl
theorem q1365 : (Jvm.Cond.fieldLink "TableTower$Reader" (276 : Nat) "TableTower$Value" "ABOVE" "LTableTower$Value;") ∈ lw_all := lw_g (lw_at lw_m6 59 rfl) rfl
theorem q1366 : (Jvm.Cond.stringRef "TableTower$Reader" (279 : Nat) "weight") ∈ lw_tbl := lw_at lw_m6 60 rfl
theorem q1367 : (Jvm.Cond.fieldLink "TableTower$Reader" (281 : Nat) "TableTower$Value" "WEIGHT" "LTableTower$Value;") ∈ lw_all := lw_g (lw_at lw_m6 61 rfl) rfl
theorem q1368 : (Jvm.Cond.classLink "TableTower$Reader" (246 : Nat) "TableTower$Seen") ∈ lw_all := lw_g (lw_at lw_m6 62 rfl) rfl
theorem q1370 : (Jvm.Cond.methodLink "TableTower$Reader" (248 : Nat) ({ cls := "TableTower$Seen", name := "<init>", desc := "(LTableTower$Value;)V" } : Jvm.MethodName)) ∈ lw_all := lw_g (lw_at lw_m6 64 rfl) rfl
theorem q1378 : (Jvm.Cond.stringRef "TableTower$Reader" (234 : Nat) "*") ∈ lw_tbl := lw_at lw_m6 72 rfl
theorem q1379 : (Jvm.Cond.stringRef "TableTower$Reader" (236 : Nat) "/") ∈ lw_tbl := lw_at lw_m6 73 rfl
theorem q1380 : (Jvm.Cond.methodLink "TableTower$Reader" (217 : Nat) ({ cls := "java/lang/String", name := "charAt", desc := "(I)C" } : Jvm.MethodName)) ∈ lw_all := lw_g (lw_at lw_m6 74 rfl) rfl
theorem q1395 : (Jvm.Cond.classLink "TableTower$Reader" (200 : Nat) "TableTower$Both") ∈ lw_all := lw_g (lw_at lw_m6 89 rfl) rfl
theorem q1397 : (Jvm.Cond.methodLink "TableTower$Reader" (202 : Nat) ({ cls := "TableTower$Both", name := "<init>", desc := "(CLTableTower$Expr;LTableTower$Expr;)V" } : Jvm.MethodName)) ∈ lw_all := lw_g (lw_at lw_m6 91 rfl) rfl
theorem q1411 : (Jvm.Cond.stringRef "TableTower$Reader" (229 : Nat) "+") ∈ lw_tbl := lw_at lw_m6 105 rfl
theorem q1412 : (Jvm.Cond.stringRef "TableTower$Reader" (177 : Nat) "-") ∈ lw_tbl := lw_at lw_m6 106 rfl
theorem q1413 : (Jvm.Cond.stringRef "TableTower$Reader" (213 : Nat) "<") ∈ lw_tbl := lw_at lw_m6 107 rfl
theorem q1414 : (Jvm.Cond.stringRef "TableTower$Reader" (215 : Nat) "=") ∈ lw_tbl := lw_at lw_m6 108 rfl
theorem q1415 : (Jvm.Cond.classLink "TableTower$Reader" (221 : Nat) "TableTower$Not") ∈ lw_all := lw_g (lw_at lw_m6 109 rfl) rfl
theorem q1417 : (Jvm.Cond.methodLink "TableTower$Reader" (223 : Nat) ({ cls := "TableTower$Not", name := "<init>", desc := "(LTableTower$Expr;)V" } : Jvm.MethodName)) ∈ lw_all := lw_g (lw_at lw_m6 111 rfl) rfl
theorem q1425 : (Jvm.Cond.stringRef "TableTower$Reader" (208 : Nat) "and") ∈ lw_tbl := lw_at lw_m6 119 rfl
theorem q1426 : (Jvm.Cond.stringRef "TableTower$Reader" (198 : Nat) "or") ∈ lw_tbl := lw_at lw_m6 120 rfl
theorem q1427 : (Jvm.Cond.stringRef "TableTower$Reader" (148 : Nat) "pine") ∈ lw_tbl := lw_at lw_m6 121 rfl
theorem q1428 : (Jvm.Cond.stringRef "TableTower$Reader" (150 : Nat) "oak") ∈ lw_tbl := lw_at lw_m6 122 rfl
theorem q1429 : (Jvm.Cond.stringRef "TableTower$Reader" (152 : Nat) "folding") ∈ lw_tbl := lw_at lw_m6 123 rfl
theorem q1430 : (Jvm.Cond.stringRef "TableTower$Reader" (154 : Nat) "castor") ∈ lw_tbl := lw_at lw_m6 124 rfl
theorem q1431 : (Jvm.Cond.methodLink "TableTower$Reader" (160 : Nat) ({ cls := "java/util/ArrayList", name := "size", desc := "()I" } : Jvm.MethodName)) ∈ lw_all := lw_g (lw_at lw_m6 125 rfl) rfl
theorem q1432 : (Jvm.Cond.methodLink "TableTower$Reader" (164 : Nat) ({ cls := "TableTower$Reader", name := "table", desc := "()LTableTower$Pine;" } : Jvm.MethodName)) ∈ lw_all := lw_g (lw_at lw_m6 126 rfl) rfl
theorem q1433 : (Jvm.Cond.privateMethod ({ cls := "TableTower$Reader", name := "table", desc := "()LTableTower$Pine;" } : Jvm.MethodName)) ∈ lw_tbl := lw_at lw_m6 127 rfl
theorem q1434 : (Jvm.Cond.instanceMethod ({ cls := "TableTower$Reader", name := "table", desc := "()LTableTower$Pine;" } : Jvm.MethodName)) ∈ lw_all := lw_g (lw_at lw_m6 128 rfl) rfl
theorem q1435 : (Jvm.Cond.code ({ cls := "TableTower$Reader", name := "table", desc := "()LTableTower$Pine;" } : Jvm.MethodName) prog_11_method_13_code (7 : Nat) (Option.some (Jvm.ClassFile.FieldType.object "TableTower$Pine"))) ∈ lw_all := lw_g (lw_at lw_m6 129 rfl) rfl
theorem q1436 : (Jvm.Cond.classLink "TableTower$Reader" (179 : Nat) "TableTower$Pine") ∈ lw_all := lw_g (lw_at lw_m6 130 rfl) rfl
theorem q1438 : (Jvm.Cond.methodLink "TableTower$Reader" (181 : Nat) ({ cls := "TableTower$Pine", name := "<init>", desc := "(IIII)V" } : Jvm.MethodName)) ∈ lw_all := lw_g (lw_at lw_m6 132 rfl) rfl
theorem q1462 : (Jvm.Cond.classLink "TableTower$Reader" (184 : Nat) "TableTower$Oak") ∈ lw_all := lw_g (lw_at lw_m6 156 rfl) rfl
theorem q1464 : (Jvm.Cond.methodLink "TableTower$Reader" (186 : Nat) ({ cls := "TableTower$Oak", name := "<init>", desc := "(IIII)V" } : Jvm.MethodName)) ∈ lw_all := lw_g (lw_at lw_m6 158 rfl) rfl
theorem q1472 : (Jvm.Cond.classLink "TableTower$Reader" (187 : Nat) "TableTower$Folding") ∈ lw_all := lw_g (lw_at lw_m6 166 rfl) rfl
theorem q1474 : (Jvm.Cond.methodLink "TableTower$Reader" (189 : Nat) ({ cls := "TableTower$Folding", name := "<init>", desc := "(IIII)V" } : Jvm.MethodName)) ∈ lw_all := lw_g (lw_at lw_m6 168 rfl) rfl
theorem q1482 : (Jvm.Cond.classLink "TableTower$Reader" (190 : Nat) "TableTower$Castor") ∈ lw_all := lw_g (lw_at lw_m6 176 rfl) rfl
theorem q1484 : (Jvm.Cond.methodLink "TableTower$Reader" (192 : Nat) ({ cls := "TableTower$Castor", name := "<init>", desc := "(IIII)V" } : Jvm.MethodName)) ∈ lw_all := lw_g (lw_at lw_m6 178 rfl) rfl
theorem q1492 : (Jvm.Cond.methodLink "TableTower$Reader" (168 : Nat) ({ cls := "java/util/ArrayList", name := "add", desc := "(Ljava/lang/Object;)Z" } : Jvm.MethodName)) ∈ lw_all := lw_g (lw_at lw_m6 186 rfl) rfl
theorem q1493 : (Jvm.Cond.stringRef "TableTower$Reader" (171 : Nat) ";") ∈ lw_tbl := lw_at lw_m6 187 rfl
theorem q2403 : (Jvm.Cond.castable "TableTower$Reader" "java/lang/Object") ∈ lw_tbl := lw_at lw_m10 137 rfl
theorem in_X8 : ∀ w ∈ wsX80, w ∈ lw_all := lw_in wsX80 [1235, 1237, 1239, 1241, 1243, 1245, 1247, 1249, 1251] (by decide +kernel) (by decide +kernel)
/-! TableTower$Fault -/
set_option maxRecDepth 100000
def RX9 : String := "TableTower$Fault"
def TX9 : u_T := fun k => match k with
  | 0 => ("java/lang/Throwable", "cause", "Ljava/lang/Throwable;", false)
  | 1 => ("java/lang/Throwable", "stackTrace", "[Ljava/lang/StackTraceElement;", false)
  | 2 => ("java/lang/Throwable", "suppressedExceptions", "Ljava/util/List;", false)
  | 3 => ("java/lang/Throwable", "detailMessage", "Ljava/lang/String;", false)
  | 4 => ("java/lang/Throwable", "backtrace", "Ljava/lang/Object;", false)
  | 5 => ("java/lang/Throwable", "depth", "I", false)
  | 6 => ("TableTower$Fault", "kind", "I", true)
  | _ => ("TableTower$Fault", "place", "I", true)
def tyX9 : Nat → FieldType := fun k => match k with
  | 0 => .object "java/lang/Throwable"
  | 1 => .array (.object "java/lang/StackTraceElement")
  | 2 => .object "java/util/List"
  | 3 => .object "java/lang/String"
  | 4 => .object "java/lang/Object"
  | 5 => .int
  | 6 => .int
  | _ => .int
abbrev wsX90 : List Cond := u_ws RX9 TX9 8
theorem nmX9 : ∀ a, a < 8 → ∀ b, b < 8 → a ≠ b → (TX9 a).2.1 ≠ (TX9 b).2.1 := by decide +kernel
theorem tyX9_ok : ∀ k, k < 8 → parseFieldDescriptor (TX9 k).2.2.1 = some (tyX9 k) := by decide +kernel
abbrev cX9_init : ByteArray := prog_6_method_1_code
def yX9_init : MethodName := ⟨RX9, "<init>", "(II)V"⟩
def dkwX9_init_0 : List UInt8 := [42, 183, 0, 1, 42, 27, 181, 0, 7, 42, 28, 181, 0, 13, 177]
abbrev dktX9_init_0 : List UInt8 := dkwX9_init_0 ++ []
theorem dksX9_init_0 : cX9_init.data.toList.drop 0 = dktX9_init_0 := by decide +kernel
theorem dX9_init_0 : decode cX9_init 0 = .ok (.aload_n 0, 1) := dk_42 (dk_at dksX9_init_0 0 rfl rfl)
theorem dX9_init_1 : decode cX9_init 1 = .ok (.invokespecial 1, 3) := dk_183 0 1 (dk_at dksX9_init_0 1 rfl rfl)
theorem dX9_init_4 : decode cX9_init 4 = .ok (.aload_n 0, 1) := dk_42 (dk_at dksX9_init_0 4 rfl rfl)
theorem dX9_init_5 : decode cX9_init 5 = .ok (.iload_n 1, 1) := dk_27 (dk_at dksX9_init_0 5 rfl rfl)
theorem dX9_init_6 : decode cX9_init 6 = .ok (.putfield 7, 3) := dk_181 0 7 (dk_at dksX9_init_0 6 rfl rfl)
theorem dX9_init_9 : decode cX9_init 9 = .ok (.aload_n 0, 1) := dk_42 (dk_at dksX9_init_0 9 rfl rfl)
theorem dX9_init_10 : decode cX9_init 10 = .ok (.iload_n 2, 1) := dk_28 (dk_at dksX9_init_0 10 rfl rfl)
theorem dX9_init_11 : decode cX9_init 11 = .ok (.putfield 13, 3) := dk_181 0 13 (dk_at dksX9_init_0 11 rfl rfl)
theorem dX9_init_14 : decode cX9_init 14 = .ok (.return_, 1) := dk_177 (dk_at dksX9_init_0 14 rfl rfl)
theorem q137 : (Jvm.Cond.initialized "TableTower$Fault") ∈ lw_all := lw_g (lw_at lw_m1 31 rfl) rfl
theorem q211 : (Jvm.Cond.selects "TableTower$Fault" ({ cls := "java/lang/Throwable", name := "fillInStackTrace", desc := "()Ljava/lang/Throwable;" } : Jvm.MethodName) ({ cls := "java/lang/Throwable", name := "fillInStackTrace", desc := "()Ljava/lang/Throwable;" } : Jvm.MethodName)) ∈ lw_all := lw_g (lw_at lw_m1 105 rfl) rfl
theorem q622 : (Jvm.Cond.selects "TableTower$Fault" ({ cls := "java/lang/Object", name := "getClass", desc := "()Ljava/lang/Class;" } : Jvm.MethodName) ({ cls := "java/lang/Object", name := "getClass", desc := "()Ljava/lang/Class;" } : Jvm.MethodName)) ∈ lw_all := lw_g (lw_at lw_m3 36 rfl) rfl
theorem q1281 : (Jvm.Cond.instantiable "TableTower$Fault" (8 : Nat)) ∈ lw_all := lw_g (lw_at lw_m5 215 rfl) rfl
theorem q1282 : (Jvm.Cond.castable "TableTower$Fault" "TableTower$Fault") ∈ lw_tbl := lw_at lw_m5 216 rfl
theorem q1283 : (Jvm.Cond.selects "TableTower$Fault" ({ cls := "java/lang/Throwable", name := "fillInStackTrace", desc := "(I)Ljava/lang/Throwable;" } : Jvm.MethodName) ({ cls := "java/lang/Throwable", name := "fillInStackTrace", desc := "(I)Ljava/lang/Throwable;" } : Jvm.MethodName)) ∈ lw_all := lw_g (lw_at lw_m5 217 rfl) rfl
theorem q1284 : (Jvm.Cond.lays "TableTower$Fault" "java/lang/Throwable" "cause" "Ljava/lang/Throwable;") ∈ lw_all := lw_g (lw_at lw_m5 218 rfl) rfl
theorem q1285 : (Jvm.Cond.lays "TableTower$Fault" "java/lang/Throwable" "stackTrace" "[Ljava/lang/StackTraceElement;") ∈ lw_all := lw_g (lw_at lw_m5 219 rfl) rfl
theorem q1286 : (Jvm.Cond.lays "TableTower$Fault" "java/lang/Throwable" "suppressedExceptions" "Ljava/util/List;") ∈ lw_all := lw_g (lw_at lw_m5 220 rfl) rfl
theorem q1287 : (Jvm.Cond.lays "TableTower$Fault" "java/lang/Throwable" "detailMessage" "Ljava/lang/String;") ∈ lw_all := lw_g (lw_at lw_m5 221 rfl) rfl
theorem q1288 : (Jvm.Cond.lays "TableTower$Fault" "java/lang/Throwable" "backtrace" "Ljava/lang/Object;") ∈ lw_all := lw_g (lw_at lw_m5 222 rfl) rfl
theorem q1290 : (Jvm.Cond.instanceMethod ({ cls := "TableTower$Fault", name := "<init>", desc := "(II)V" } : Jvm.MethodName)) ∈ lw_all := lw_g (lw_at lw_m5 224 rfl) rfl
theorem q1291 : (Jvm.Cond.code ({ cls := "TableTower$Fault", name := "<init>", desc := "(II)V" } : Jvm.MethodName) prog_6_method_1_code (3 : Nat) (Option.none : Option Jvm.ClassFile.FieldType)) ∈ lw_all := lw_g (lw_at lw_m5 225 rfl) rfl
theorem q1292 : (Jvm.Cond.methodLink "TableTower$Fault" (1 : Nat) ({ cls := "java/lang/Exception", name := "<init>", desc := "()V" } : Jvm.MethodName)) ∈ lw_all := lw_g (lw_at lw_m5 226 rfl) rfl
theorem q1293 : (Jvm.Cond.fieldLink "TableTower$Fault" (7 : Nat) "TableTower$Fault" "kind" "I") ∈ lw_all := lw_g (lw_at lw_m5 227 rfl) rfl
theorem q1295 : (Jvm.Cond.fieldLink "TableTower$Fault" (13 : Nat) "TableTower$Fault" "place" "I") ∈ lw_all := lw_g (lw_at lw_m5 229 rfl) rfl
theorem q1297 : (Jvm.Cond.laysFinal "TableTower$Fault" "TableTower$Fault" "kind" "I") ∈ lw_all := lw_g (lw_at lw_m5 231 rfl) rfl
theorem q1298 : (Jvm.Cond.soleField "TableTower$Fault" "kind") ∈ lw_all := lw_g (lw_at lw_m5 232 rfl) rfl
theorem q1299 : (Jvm.Cond.laysFinal "TableTower$Fault" "TableTower$Fault" "place" "I") ∈ lw_all := lw_g (lw_at lw_m5 233 rfl) rfl
theorem q1300 : (Jvm.Cond.soleField "TableTower$Fault" "place") ∈ lw_all := lw_g (lw_at lw_m5 234 rfl) rfl
theorem q1301 : (Jvm.Cond.lays "TableTower$Fault" "java/lang/Throwable" "depth" "I") ∈ lw_all := lw_g (lw_at lw_m5 235 rfl) rfl
theorem q1302 : (Jvm.Cond.superclass "TableTower$Fault" "java/lang/Exception") ∈ lw_all := lw_g (lw_at lw_m5 236 rfl) rfl
theorem q2405 : (Jvm.Cond.castable "TableTower$Fault" "java/lang/Object") ∈ lw_tbl := lw_at lw_m10 139 rfl
theorem in_X9 : ∀ w ∈ wsX90, w ∈ lw_all := lw_in wsX90 [1284, 1285, 1286, 1287, 1288, 1301, 1297, 1299] (by decide +kernel) (by decide +kernel)
theorem q136 : (Jvm.Cond.initialized "TableTower$Sort") ∈ lw_all := lw_g (lw_at lw_m1 30 rfl) rfl
set_option maxRecDepth 100000
theorem q629 : (Jvm.Cond.selects "TableTower$Sort" ({ cls := "java/lang/Object", name := "getClass", desc := "()Ljava/lang/Class;" } : Jvm.MethodName) ({ cls := "java/lang/Object", name := "getClass", desc := "()Ljava/lang/Class;" } : Jvm.MethodName)) ∈ lw_all := lw_g (lw_at lw_m3 43 rfl) rfl
theorem q1168 : (Jvm.Cond.laysStatic "TableTower$Sort" "END" "LTableTower$Sort;") ∈ lw_tbl := lw_at lw_m5 102 rfl
theorem q1199 : (Jvm.Cond.laysStatic "TableTower$Sort" "WORD" "LTableTower$Sort;") ∈ lw_tbl := lw_at lw_m5 133 rfl
theorem q1204 : (Jvm.Cond.laysStatic "TableTower$Sort" "NUMBER" "LTableTower$Sort;") ∈ lw_tbl := lw_at lw_m5 138 rfl
theorem q1209 : (Jvm.Cond.laysStatic "TableTower$Sort" "SIGN" "LTableTower$Sort;") ∈ lw_tbl := lw_at lw_m5 143 rfl
theorem q1211 : (Jvm.Cond.laysStatic "TableTower$Sort" "BAD" "LTableTower$Sort;") ∈ lw_tbl := lw_at lw_m5 145 rfl
theorem q2404 : (Jvm.Cond.castable "TableTower$Sort" "java/lang/Object") ∈ lw_tbl := lw_at lw_m10 138 rfl
theorem q286 : (Jvm.Cond.sameMethod "[B" "java/lang/Object" "clone" "()Ljava/lang/Object;") ∈ lw_all := lw_g (lw_at lw_m1 180 rfl) rfl
set_option maxRecDepth 100000
theorem q289 : (Jvm.Cond.selects "[B" ({ cls := "[B", name := "clone", desc := "()Ljava/lang/Object;" } : Jvm.MethodName) ({ cls := "java/lang/Object", name := "clone", desc := "()Ljava/lang/Object;" } : Jvm.MethodName)) ∈ lw_all := lw_g (lw_at lw_m1 183 rfl) rfl
theorem q290 : (Jvm.Cond.castable "[B" "java/lang/Cloneable") ∈ lw_tbl := lw_at lw_m1 184 rfl
theorem q2420 : (Jvm.Cond.castable "[B" "java/lang/Object") ∈ lw_tbl := lw_at lw_m10 154 rfl
theorem q2422 : (Jvm.Cond.castable "[I" "java/lang/Object") ∈ lw_tbl := lw_at lw_m10 156 rfl
set_option maxRecDepth 100000
theorem q2423 : (Jvm.Cond.castable "[J" "java/lang/Object") ∈ lw_tbl := lw_at lw_m10 157 rfl
set_option maxRecDepth 100000
theorem q514 : (Jvm.Cond.sameMethod "[LTableTower$Value;" "java/lang/Object" "clone" "()Ljava/lang/Object;") ∈ lw_all := lw_g (lw_at lw_m2 168 rfl) rfl
set_option maxRecDepth 100000
theorem q515 : (Jvm.Cond.selects "[LTableTower$Value;" ({ cls := "[LTableTower$Value;", name := "clone", desc := "()Ljava/lang/Object;" } : Jvm.MethodName) ({ cls := "java/lang/Object", name := "clone", desc := "()Ljava/lang/Object;" } : Jvm.MethodName)) ∈ lw_all := lw_g (lw_at lw_m2 169 rfl) rfl
theorem q516 : (Jvm.Cond.castable "[LTableTower$Value;" "java/lang/Cloneable") ∈ lw_tbl := lw_at lw_m2 170 rfl
theorem q2421 : (Jvm.Cond.castable "[LTableTower$Value;" "java/lang/Object") ∈ lw_tbl := lw_at lw_m10 155 rfl
theorem q2416 : (Jvm.Cond.sameMethod "[Ljava/lang/Object;" "java/lang/Object" "getClass" "()Ljava/lang/Class;") ∈ lw_all := lw_g (lw_at lw_m10 150 rfl) rfl
set_option maxRecDepth 100000
theorem q2417 : (Jvm.Cond.selects "[Ljava/lang/Object;" ({ cls := "java/lang/Object", name := "getClass", desc := "()Ljava/lang/Class;" } : Jvm.MethodName) ({ cls := "java/lang/Object", name := "getClass", desc := "()Ljava/lang/Class;" } : Jvm.MethodName)) ∈ lw_all := lw_g (lw_at lw_m10 151 rfl) rfl
theorem q2419 : (Jvm.Cond.castable "[Ljava/lang/Object;" "java/lang/Object") ∈ lw_tbl := lw_at lw_m10 153 rfl
theorem q2425 : (Jvm.Cond.castable "[Ljava/lang/String;" "java/lang/Object") ∈ lw_tbl := lw_at lw_m10 159 rfl
set_option maxRecDepth 100000
theorem q2424 : (Jvm.Cond.castable "[Z" "java/lang/Object") ∈ lw_tbl := lw_at lw_m10 158 rfl
set_option maxRecDepth 100000
theorem q126 : (Jvm.Cond.initialized "java/lang/Number") ∈ lw_all := lw_g (lw_at lw_m1 20 rfl) rfl
set_option maxRecDepth 100000
theorem q123 : (Jvm.Cond.initialized "java/lang/System") ∈ lw_all := lw_g (lw_at lw_m1 17 rfl) rfl
set_option maxRecDepth 100000
theorem q296 : (Jvm.Cond.static ({ cls := "java/lang/System", name := "arraycopy", desc := "(Ljava/lang/Object;ILjava/lang/Object;II)V" } : Jvm.MethodName)) ∈ lw_all := lw_g (lw_at lw_m1 190 rfl) rfl
theorem q297 : (Jvm.Cond.native ({ cls := "java/lang/System", name := "arraycopy", desc := "(Ljava/lang/Object;ILjava/lang/Object;II)V" } : Jvm.MethodName)) ∈ lw_all := lw_g (lw_at lw_m1 191 rfl) rfl
theorem q175 : (Jvm.Cond.arrayOver (Jvm.ClassFile.FieldType.object "java/lang/Object")) ∈ lw_tbl := lw_at lw_m1 69 rfl
set_option maxRecDepth 100000
theorem q250 : (Jvm.Cond.arrayClass Jvm.ClassFile.FieldType.byte) ∈ lw_all := lw_g (lw_at lw_m1 144 rfl) rfl
theorem q517 : (Jvm.Cond.arrayOver (Jvm.ClassFile.FieldType.object "TableTower$Value")) ∈ lw_tbl := lw_at lw_m2 171 rfl
theorem q524 : (Jvm.Cond.arrayClass Jvm.ClassFile.FieldType.int) ∈ lw_all := lw_g (lw_at lw_m2 178 rfl) rfl
theorem q748 : (Jvm.Cond.arrayClass Jvm.ClassFile.FieldType.long) ∈ lw_all := lw_g (lw_at lw_m3 162 rfl) rfl
theorem q749 : (Jvm.Cond.arrayClass Jvm.ClassFile.FieldType.boolean) ∈ lw_all := lw_g (lw_at lw_m3 163 rfl) rfl
theorem q1719 : (Jvm.Cond.arrayOver (Jvm.ClassFile.FieldType.object "java/lang/String")) ∈ lw_tbl := lw_at lw_m7 173 rfl
