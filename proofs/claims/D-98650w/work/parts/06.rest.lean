/-! java/util/AbstractCollection -/
set_option maxRecDepth 100000
def RJ0 : String := "java/util/AbstractCollection"
abbrev cJ0_init : ByteArray := prog_37_method_1_code
def yJ0_init : MethodName := ⟨RJ0, "<init>", "()V"⟩
theorem dJ0_init_0 : decode cJ0_init 0 = .ok (.aload_n 0, 1) := by decide +kernel
theorem dJ0_init_1 : decode cJ0_init 1 = .ok (.invokespecial 1, 3) := by decide +kernel
theorem dJ0_init_4 : decode cJ0_init 4 = .ok (.return_, 1) := by decide +kernel
theorem q152 : (Jvm.Cond.initialized "java/util/AbstractCollection") ∈ lw_all := lw_g (lw_at lw_m1 3 rfl) rfl
theorem q208 : (Jvm.Cond.instanceMethod ({ cls := "java/util/AbstractCollection", name := "<init>", desc := "()V" } : Jvm.MethodName)) ∈ lw_all := lw_g (lw_at lw_m1 59 rfl) rfl
theorem q209 : (Jvm.Cond.code ({ cls := "java/util/AbstractCollection", name := "<init>", desc := "()V" } : Jvm.MethodName) prog_37_method_1_code (1 : Nat) (Option.none : Option Jvm.ClassFile.FieldType)) ∈ lw_all := lw_g (lw_at lw_m1 60 rfl) rfl
theorem q210 : (Jvm.Cond.methodLink "java/util/AbstractCollection" (1 : Nat) ({ cls := "java/lang/Object", name := "<init>", desc := "()V" } : Jvm.MethodName)) ∈ lw_all := lw_g (lw_at lw_m1 61 rfl) rfl

/-! java/util/AbstractList -/
set_option maxRecDepth 100000
def RJ1 : String := "java/util/AbstractList"
abbrev cJ1_init : ByteArray := prog_38_method_1_code
def yJ1_init : MethodName := ⟨RJ1, "<init>", "()V"⟩
def dkwJ1_init_0 : List UInt8 := [42, 183, 0, 1, 42, 3, 181, 0, 7, 177]
abbrev dktJ1_init_0 : List UInt8 := dkwJ1_init_0 ++ []
theorem dksJ1_init_0 : cJ1_init.data.toList.drop 0 = dktJ1_init_0 := by decide +kernel
theorem dJ1_init_0 : decode cJ1_init 0 = .ok (.aload_n 0, 1) := dk_42 (dk_at dksJ1_init_0 0 rfl rfl)
theorem dJ1_init_1 : decode cJ1_init 1 = .ok (.invokespecial 1, 3) := dk_183 0 1 (dk_at dksJ1_init_0 1 rfl rfl)
theorem dJ1_init_4 : decode cJ1_init 4 = .ok (.aload_n 0, 1) := dk_42 (dk_at dksJ1_init_0 4 rfl rfl)
theorem dJ1_init_5 : decode cJ1_init 5 = .ok (.iconst 0, 1) := dk_3 (dk_at dksJ1_init_0 5 rfl rfl)
theorem dJ1_init_6 : decode cJ1_init 6 = .ok (.putfield 7, 3) := dk_181 0 7 (dk_at dksJ1_init_0 6 rfl rfl)
theorem dJ1_init_9 : decode cJ1_init 9 = .ok (.return_, 1) := dk_177 (dk_at dksJ1_init_0 9 rfl rfl)
theorem q153 : (Jvm.Cond.initialized "java/util/AbstractList") ∈ lw_all := lw_g (lw_at lw_m1 4 rfl) rfl
theorem q205 : (Jvm.Cond.instanceMethod ({ cls := "java/util/AbstractList", name := "<init>", desc := "()V" } : Jvm.MethodName)) ∈ lw_all := lw_g (lw_at lw_m1 56 rfl) rfl
theorem q206 : (Jvm.Cond.code ({ cls := "java/util/AbstractList", name := "<init>", desc := "()V" } : Jvm.MethodName) prog_38_method_1_code (1 : Nat) (Option.none : Option Jvm.ClassFile.FieldType)) ∈ lw_all := lw_g (lw_at lw_m1 57 rfl) rfl
theorem q207 : (Jvm.Cond.methodLink "java/util/AbstractList" (1 : Nat) ({ cls := "java/util/AbstractCollection", name := "<init>", desc := "()V" } : Jvm.MethodName)) ∈ lw_all := lw_g (lw_at lw_m1 58 rfl) rfl
theorem q217 : (Jvm.Cond.fieldLink "java/util/AbstractList" (7 : Nat) "java/util/AbstractList" "modCount" "I") ∈ lw_all := lw_g (lw_at lw_m1 68 rfl) rfl
theorem q225 : (Jvm.Cond.soleField "java/util/AbstractList" "modCount") ∈ lw_all := lw_g (lw_at lw_m1 76 rfl) rfl

/-! java/lang/Record -/
set_option maxRecDepth 100000
def RJ10 : String := "java/lang/Record"
abbrev cJ10_init : ByteArray := prog_29_method_1_code
def yJ10_init : MethodName := ⟨RJ10, "<init>", "()V"⟩
theorem dJ10_init_0 : decode cJ10_init 0 = .ok (.aload_n 0, 1) := by decide +kernel
theorem dJ10_init_1 : decode cJ10_init 1 = .ok (.invokespecial 1, 3) := by decide +kernel
theorem dJ10_init_4 : decode cJ10_init 4 = .ok (.return_, 1) := by decide +kernel
theorem q166 : (Jvm.Cond.initialized "java/lang/Record") ∈ lw_all := lw_g (lw_at lw_m1 17 rfl) rfl
theorem q650 : (Jvm.Cond.instanceMethod ({ cls := "java/lang/Record", name := "<init>", desc := "()V" } : Jvm.MethodName)) ∈ lw_all := lw_g (lw_at lw_m3 21 rfl) rfl
theorem q651 : (Jvm.Cond.code ({ cls := "java/lang/Record", name := "<init>", desc := "()V" } : Jvm.MethodName) prog_29_method_1_code (1 : Nat) (Option.none : Option Jvm.ClassFile.FieldType)) ∈ lw_all := lw_g (lw_at lw_m3 22 rfl) rfl
theorem q652 : (Jvm.Cond.methodLink "java/lang/Record" (1 : Nat) ({ cls := "java/lang/Object", name := "<init>", desc := "()V" } : Jvm.MethodName)) ∈ lw_all := lw_g (lw_at lw_m3 23 rfl) rfl

/-! jdk/internal/util/ArraysSupport -/
set_option maxRecDepth 100000
def RJ11 : String := "jdk/internal/util/ArraysSupport"
abbrev cJ11_newLength : ByteArray := prog_46_method_27_code
def yJ11_newLength : MethodName := ⟨RJ11, "newLength", "(III)I"⟩
def dkwJ11_newLength_1 : List UInt8 := [184, 0, 201, 172]
abbrev dktJ11_newLength_1 : List UInt8 := dkwJ11_newLength_1 ++ []
def dkwJ11_newLength_0 : List UInt8 := [26, 27, 28, 184, 0, 194, 96, 62, 3, 29, 162, 0, 11, 29, 18, 200, 163, 0, 5, 29, 172, 26, 27]
abbrev dktJ11_newLength_0 : List UInt8 := dkwJ11_newLength_0 ++ dktJ11_newLength_1
theorem dksJ11_newLength_0 : cJ11_newLength.data.toList.drop 0 = dktJ11_newLength_0 := by decide +kernel
theorem dksJ11_newLength_1 : cJ11_newLength.data.toList.drop 23 = dktJ11_newLength_1 := dk_seg dksJ11_newLength_0 23 rfl rfl
theorem dJ11_newLength_0 : decode cJ11_newLength 0 = .ok (.iload_n 0, 1) := dk_26 (dk_at dksJ11_newLength_0 0 rfl rfl)
theorem dJ11_newLength_1 : decode cJ11_newLength 1 = .ok (.iload_n 1, 1) := dk_27 (dk_at dksJ11_newLength_0 1 rfl rfl)
theorem dJ11_newLength_2 : decode cJ11_newLength 2 = .ok (.iload_n 2, 1) := dk_28 (dk_at dksJ11_newLength_0 2 rfl rfl)
theorem dJ11_newLength_3 : decode cJ11_newLength 3 = .ok (.invokestatic 194, 3) := dk_184 0 194 (dk_at dksJ11_newLength_0 3 rfl rfl)
theorem dJ11_newLength_6 : decode cJ11_newLength 6 = .ok (.iadd, 1) := dk_96 (dk_at dksJ11_newLength_0 6 rfl rfl)
theorem dJ11_newLength_7 : decode cJ11_newLength 7 = .ok (.istore_n 3, 1) := dk_62 (dk_at dksJ11_newLength_0 7 rfl rfl)
theorem dJ11_newLength_8 : decode cJ11_newLength 8 = .ok (.iconst 0, 1) := dk_3 (dk_at dksJ11_newLength_0 8 rfl rfl)
theorem dJ11_newLength_9 : decode cJ11_newLength 9 = .ok (.iload_n 3, 1) := dk_29 (dk_at dksJ11_newLength_0 9 rfl rfl)
theorem dJ11_newLength_10 : decode cJ11_newLength 10 = .ok (.if_icmp .ge 11, 3) := dk_162 0 11 (dk_at dksJ11_newLength_0 10 rfl rfl)
theorem dJ11_newLength_13 : decode cJ11_newLength 13 = .ok (.iload_n 3, 1) := dk_29 (dk_at dksJ11_newLength_0 13 rfl rfl)
theorem dJ11_newLength_14 : decode cJ11_newLength 14 = .ok (.ldc 200, 2) := dk_18 200 (dk_at dksJ11_newLength_0 14 rfl rfl)
theorem dJ11_newLength_16 : decode cJ11_newLength 16 = .ok (.if_icmp .gt 5, 3) := dk_163 0 5 (dk_at dksJ11_newLength_0 16 rfl rfl)
theorem dJ11_newLength_19 : decode cJ11_newLength 19 = .ok (.iload_n 3, 1) := dk_29 (dk_at dksJ11_newLength_0 19 rfl rfl)
theorem dJ11_newLength_20 : decode cJ11_newLength 20 = .ok (.ireturn, 1) := dk_172 (dk_at dksJ11_newLength_0 20 rfl rfl)
theorem dJ11_newLength_21 : decode cJ11_newLength 21 = .ok (.iload_n 0, 1) := dk_26 (dk_at dksJ11_newLength_0 21 rfl rfl)
theorem dJ11_newLength_22 : decode cJ11_newLength 22 = .ok (.iload_n 1, 1) := dk_27 (dk_at dksJ11_newLength_0 22 rfl rfl)
theorem dJ11_newLength_23 : decode cJ11_newLength 23 = .ok (.invokestatic 201, 3) := dk_184 0 201 (dk_at dksJ11_newLength_1 0 rfl rfl)
theorem dJ11_newLength_26 : decode cJ11_newLength 26 = .ok (.ireturn, 1) := dk_172 (dk_at dksJ11_newLength_1 3 rfl rfl)
abbrev cJ11_hugeLength : ByteArray := prog_46_method_28_code
def yJ11_hugeLength : MethodName := ⟨RJ11, "hugeLength", "(II)I"⟩
def dkwJ11_hugeLength_2 : List UInt8 := [191, 28, 18, 200, 163, 0, 6, 18, 200, 172, 28, 172]
abbrev dktJ11_hugeLength_2 : List UInt8 := dkwJ11_hugeLength_2 ++ []
def dkwJ11_hugeLength_1 : List UInt8 := [26, 182, 0, 98, 18, 208, 182, 0, 94, 27, 182, 0, 98, 18, 210, 182, 0, 94, 182, 0, 101, 183, 0, 212]
abbrev dktJ11_hugeLength_1 : List UInt8 := dkwJ11_hugeLength_1 ++ dktJ11_hugeLength_2
def dkwJ11_hugeLength_0 : List UInt8 := [26, 27, 96, 61, 28, 156, 0, 44, 187, 0, 204, 89, 187, 0, 89, 89, 183, 0, 91, 18, 206, 182, 0, 94]
abbrev dktJ11_hugeLength_0 : List UInt8 := dkwJ11_hugeLength_0 ++ dktJ11_hugeLength_1
theorem dksJ11_hugeLength_0 : cJ11_hugeLength.data.toList.drop 0 = dktJ11_hugeLength_0 := by decide +kernel
theorem dksJ11_hugeLength_1 : cJ11_hugeLength.data.toList.drop 24 = dktJ11_hugeLength_1 := dk_seg dksJ11_hugeLength_0 24 rfl rfl
theorem dksJ11_hugeLength_2 : cJ11_hugeLength.data.toList.drop 48 = dktJ11_hugeLength_2 := dk_seg dksJ11_hugeLength_1 24 rfl rfl
theorem dJ11_hugeLength_0 : decode cJ11_hugeLength 0 = .ok (.iload_n 0, 1) := dk_26 (dk_at dksJ11_hugeLength_0 0 rfl rfl)
theorem dJ11_hugeLength_1 : decode cJ11_hugeLength 1 = .ok (.iload_n 1, 1) := dk_27 (dk_at dksJ11_hugeLength_0 1 rfl rfl)
theorem dJ11_hugeLength_2 : decode cJ11_hugeLength 2 = .ok (.iadd, 1) := dk_96 (dk_at dksJ11_hugeLength_0 2 rfl rfl)
theorem dJ11_hugeLength_3 : decode cJ11_hugeLength 3 = .ok (.istore_n 2, 1) := dk_61 (dk_at dksJ11_hugeLength_0 3 rfl rfl)
theorem dJ11_hugeLength_4 : decode cJ11_hugeLength 4 = .ok (.iload_n 2, 1) := dk_28 (dk_at dksJ11_hugeLength_0 4 rfl rfl)
theorem dJ11_hugeLength_5 : decode cJ11_hugeLength 5 = .ok (.ifCond .ge 44, 3) := dk_156 0 44 (dk_at dksJ11_hugeLength_0 5 rfl rfl)
theorem dJ11_hugeLength_8 : decode cJ11_hugeLength 8 = .ok (.new 204, 3) := dk_187 0 204 (dk_at dksJ11_hugeLength_0 8 rfl rfl)
theorem dJ11_hugeLength_11 : decode cJ11_hugeLength 11 = .ok (.dup, 1) := dk_89 (dk_at dksJ11_hugeLength_0 11 rfl rfl)
theorem dJ11_hugeLength_12 : decode cJ11_hugeLength 12 = .ok (.new 89, 3) := dk_187 0 89 (dk_at dksJ11_hugeLength_0 12 rfl rfl)
theorem dJ11_hugeLength_15 : decode cJ11_hugeLength 15 = .ok (.dup, 1) := dk_89 (dk_at dksJ11_hugeLength_0 15 rfl rfl)
theorem dJ11_hugeLength_16 : decode cJ11_hugeLength 16 = .ok (.invokespecial 91, 3) := dk_183 0 91 (dk_at dksJ11_hugeLength_0 16 rfl rfl)
theorem dJ11_hugeLength_19 : decode cJ11_hugeLength 19 = .ok (.ldc 206, 2) := dk_18 206 (dk_at dksJ11_hugeLength_0 19 rfl rfl)
theorem dJ11_hugeLength_21 : decode cJ11_hugeLength 21 = .ok (.invokevirtual 94, 3) := dk_182 0 94 (dk_at dksJ11_hugeLength_0 21 rfl rfl)
theorem dJ11_hugeLength_24 : decode cJ11_hugeLength 24 = .ok (.iload_n 0, 1) := dk_26 (dk_at dksJ11_hugeLength_1 0 rfl rfl)
theorem dJ11_hugeLength_25 : decode cJ11_hugeLength 25 = .ok (.invokevirtual 98, 3) := dk_182 0 98 (dk_at dksJ11_hugeLength_1 1 rfl rfl)
theorem dJ11_hugeLength_28 : decode cJ11_hugeLength 28 = .ok (.ldc 208, 2) := dk_18 208 (dk_at dksJ11_hugeLength_1 4 rfl rfl)
theorem dJ11_hugeLength_30 : decode cJ11_hugeLength 30 = .ok (.invokevirtual 94, 3) := dk_182 0 94 (dk_at dksJ11_hugeLength_1 6 rfl rfl)
theorem dJ11_hugeLength_33 : decode cJ11_hugeLength 33 = .ok (.iload_n 1, 1) := dk_27 (dk_at dksJ11_hugeLength_1 9 rfl rfl)
theorem dJ11_hugeLength_34 : decode cJ11_hugeLength 34 = .ok (.invokevirtual 98, 3) := dk_182 0 98 (dk_at dksJ11_hugeLength_1 10 rfl rfl)
theorem dJ11_hugeLength_37 : decode cJ11_hugeLength 37 = .ok (.ldc 210, 2) := dk_18 210 (dk_at dksJ11_hugeLength_1 13 rfl rfl)
theorem dJ11_hugeLength_39 : decode cJ11_hugeLength 39 = .ok (.invokevirtual 94, 3) := dk_182 0 94 (dk_at dksJ11_hugeLength_1 15 rfl rfl)
theorem dJ11_hugeLength_42 : decode cJ11_hugeLength 42 = .ok (.invokevirtual 101, 3) := dk_182 0 101 (dk_at dksJ11_hugeLength_1 18 rfl rfl)
theorem dJ11_hugeLength_45 : decode cJ11_hugeLength 45 = .ok (.invokespecial 212, 3) := dk_183 0 212 (dk_at dksJ11_hugeLength_1 21 rfl rfl)
theorem dJ11_hugeLength_48 : decode cJ11_hugeLength 48 = .ok (.athrow, 1) := dk_191 (dk_at dksJ11_hugeLength_2 0 rfl rfl)
theorem dJ11_hugeLength_49 : decode cJ11_hugeLength 49 = .ok (.iload_n 2, 1) := dk_28 (dk_at dksJ11_hugeLength_2 1 rfl rfl)
theorem dJ11_hugeLength_50 : decode cJ11_hugeLength 50 = .ok (.ldc 200, 2) := dk_18 200 (dk_at dksJ11_hugeLength_2 2 rfl rfl)
theorem dJ11_hugeLength_52 : decode cJ11_hugeLength 52 = .ok (.if_icmp .gt 6, 3) := dk_163 0 6 (dk_at dksJ11_hugeLength_2 4 rfl rfl)
theorem dJ11_hugeLength_55 : decode cJ11_hugeLength 55 = .ok (.ldc 200, 2) := dk_18 200 (dk_at dksJ11_hugeLength_2 7 rfl rfl)
theorem dJ11_hugeLength_57 : decode cJ11_hugeLength 57 = .ok (.ireturn, 1) := dk_172 (dk_at dksJ11_hugeLength_2 9 rfl rfl)
theorem dJ11_hugeLength_58 : decode cJ11_hugeLength 58 = .ok (.iload_n 2, 1) := dk_28 (dk_at dksJ11_hugeLength_2 10 rfl rfl)
theorem dJ11_hugeLength_59 : decode cJ11_hugeLength 59 = .ok (.ireturn, 1) := dk_172 (dk_at dksJ11_hugeLength_2 11 rfl rfl)
theorem q168 : (Jvm.Cond.initialized "jdk/internal/util/ArraysSupport") ∈ lw_all := lw_g (lw_at lw_m1 19 rfl) rfl
theorem q686 : (Jvm.Cond.static ({ cls := "jdk/internal/util/ArraysSupport", name := "newLength", desc := "(III)I" } : Jvm.MethodName)) ∈ lw_all := lw_g (lw_at lw_m3 57 rfl) rfl
theorem q687 : (Jvm.Cond.code ({ cls := "jdk/internal/util/ArraysSupport", name := "newLength", desc := "(III)I" } : Jvm.MethodName) prog_46_method_27_code (4 : Nat) (Option.some Jvm.ClassFile.FieldType.int)) ∈ lw_all := lw_g (lw_at lw_m3 58 rfl) rfl
theorem q688 : (Jvm.Cond.methodLink "jdk/internal/util/ArraysSupport" (194 : Nat) ({ cls := "java/lang/Math", name := "max", desc := "(II)I" } : Jvm.MethodName)) ∈ lw_all := lw_g (lw_at lw_m3 59 rfl) rfl
theorem q691 : (Jvm.Cond.constant "jdk/internal/util/ArraysSupport" (200 : Nat) (2147483639 : Int32)) ∈ lw_all := lw_g (lw_at lw_m3 62 rfl) rfl
theorem q692 : (Jvm.Cond.methodLink "jdk/internal/util/ArraysSupport" (201 : Nat) ({ cls := "jdk/internal/util/ArraysSupport", name := "hugeLength", desc := "(II)I" } : Jvm.MethodName)) ∈ lw_all := lw_g (lw_at lw_m3 63 rfl) rfl
theorem q693 : (Jvm.Cond.static ({ cls := "jdk/internal/util/ArraysSupport", name := "hugeLength", desc := "(II)I" } : Jvm.MethodName)) ∈ lw_all := lw_g (lw_at lw_m3 64 rfl) rfl
theorem q694 : (Jvm.Cond.code ({ cls := "jdk/internal/util/ArraysSupport", name := "hugeLength", desc := "(II)I" } : Jvm.MethodName) prog_46_method_28_code (3 : Nat) (Option.some Jvm.ClassFile.FieldType.int)) ∈ lw_all := lw_g (lw_at lw_m3 65 rfl) rfl

/-! java/lang/Math -/
set_option maxRecDepth 100000
def RJ12 : String := "java/lang/Math"
abbrev cJ12_max : ByteArray := prog_28_method_65_code
def yJ12_max : MethodName := ⟨RJ12, "max", "(II)I"⟩
def dkwJ12_max_0 : List UInt8 := [26, 27, 161, 0, 7, 26, 167, 0, 4, 27, 172]
abbrev dktJ12_max_0 : List UInt8 := dkwJ12_max_0 ++ []
theorem dksJ12_max_0 : cJ12_max.data.toList.drop 0 = dktJ12_max_0 := by decide +kernel
theorem dJ12_max_0 : decode cJ12_max 0 = .ok (.iload_n 0, 1) := dk_26 (dk_at dksJ12_max_0 0 rfl rfl)
theorem dJ12_max_1 : decode cJ12_max 1 = .ok (.iload_n 1, 1) := dk_27 (dk_at dksJ12_max_0 1 rfl rfl)
theorem dJ12_max_2 : decode cJ12_max 2 = .ok (.if_icmp .lt 7, 3) := dk_161 0 7 (dk_at dksJ12_max_0 2 rfl rfl)
theorem dJ12_max_5 : decode cJ12_max 5 = .ok (.iload_n 0, 1) := dk_26 (dk_at dksJ12_max_0 5 rfl rfl)
theorem dJ12_max_6 : decode cJ12_max 6 = .ok (.goto 4, 3) := dk_167 0 4 (dk_at dksJ12_max_0 6 rfl rfl)
theorem dJ12_max_9 : decode cJ12_max 9 = .ok (.iload_n 1, 1) := dk_27 (dk_at dksJ12_max_0 9 rfl rfl)
theorem dJ12_max_10 : decode cJ12_max 10 = .ok (.ireturn, 1) := dk_172 (dk_at dksJ12_max_0 10 rfl rfl)
abbrev cJ12_min : ByteArray := prog_28_method_69_code
def yJ12_min : MethodName := ⟨RJ12, "min", "(II)I"⟩
def dkwJ12_min_0 : List UInt8 := [26, 27, 163, 0, 7, 26, 167, 0, 4, 27, 172]
abbrev dktJ12_min_0 : List UInt8 := dkwJ12_min_0 ++ []
theorem dksJ12_min_0 : cJ12_min.data.toList.drop 0 = dktJ12_min_0 := by decide +kernel
theorem dJ12_min_0 : decode cJ12_min 0 = .ok (.iload_n 0, 1) := dk_26 (dk_at dksJ12_min_0 0 rfl rfl)
theorem dJ12_min_1 : decode cJ12_min 1 = .ok (.iload_n 1, 1) := dk_27 (dk_at dksJ12_min_0 1 rfl rfl)
theorem dJ12_min_2 : decode cJ12_min 2 = .ok (.if_icmp .gt 7, 3) := dk_163 0 7 (dk_at dksJ12_min_0 2 rfl rfl)
theorem dJ12_min_5 : decode cJ12_min 5 = .ok (.iload_n 0, 1) := dk_26 (dk_at dksJ12_min_0 5 rfl rfl)
theorem dJ12_min_6 : decode cJ12_min 6 = .ok (.goto 4, 3) := dk_167 0 4 (dk_at dksJ12_min_0 6 rfl rfl)
theorem dJ12_min_9 : decode cJ12_min 9 = .ok (.iload_n 1, 1) := dk_27 (dk_at dksJ12_min_0 9 rfl rfl)
theorem dJ12_min_10 : decode cJ12_min 10 = .ok (.ireturn, 1) := dk_172 (dk_at dksJ12_min_0 10 rfl rfl)
theorem q169 : (Jvm.Cond.initialized "java/lang/Math") ∈ lw_all := lw_g (lw_at lw_m1 20 rfl) rfl
theorem q689 : (Jvm.Cond.static ({ cls := "java/lang/Math", name := "max", desc := "(II)I" } : Jvm.MethodName)) ∈ lw_all := lw_g (lw_at lw_m3 60 rfl) rfl
theorem q690 : (Jvm.Cond.code ({ cls := "java/lang/Math", name := "max", desc := "(II)I" } : Jvm.MethodName) prog_28_method_65_code (2 : Nat) (Option.some Jvm.ClassFile.FieldType.int)) ∈ lw_all := lw_g (lw_at lw_m3 61 rfl) rfl
theorem q726 : (Jvm.Cond.static ({ cls := "java/lang/Math", name := "min", desc := "(II)I" } : Jvm.MethodName)) ∈ lw_all := lw_g (lw_at lw_m3 97 rfl) rfl
theorem q727 : (Jvm.Cond.code ({ cls := "java/lang/Math", name := "min", desc := "(II)I" } : Jvm.MethodName) prog_28_method_69_code (2 : Nat) (Option.some Jvm.ClassFile.FieldType.int)) ∈ lw_all := lw_g (lw_at lw_m3 98 rfl) rfl

/-! java/util/Arrays -/
set_option maxRecDepth 100000
def RJ13 : String := "java/util/Arrays"
abbrev cJ13_copyOf : ByteArray := prog_40_method_119_code
def yJ13_copyOf : MethodName := ⟨RJ13, "copyOf", "([Ljava/lang/Object;I)[Ljava/lang/Object;"⟩
def dkwJ13_copyOf_0 : List UInt8 := [42, 27, 42, 182, 0, 86, 184, 1, 44, 176]
abbrev dktJ13_copyOf_0 : List UInt8 := dkwJ13_copyOf_0 ++ []
theorem dksJ13_copyOf_0 : cJ13_copyOf.data.toList.drop 0 = dktJ13_copyOf_0 := by decide +kernel
theorem dJ13_copyOf_0 : decode cJ13_copyOf 0 = .ok (.aload_n 0, 1) := dk_42 (dk_at dksJ13_copyOf_0 0 rfl rfl)
theorem dJ13_copyOf_1 : decode cJ13_copyOf 1 = .ok (.iload_n 1, 1) := dk_27 (dk_at dksJ13_copyOf_0 1 rfl rfl)
theorem dJ13_copyOf_2 : decode cJ13_copyOf 2 = .ok (.aload_n 0, 1) := dk_42 (dk_at dksJ13_copyOf_0 2 rfl rfl)
theorem dJ13_copyOf_3 : decode cJ13_copyOf 3 = .ok (.invokevirtual 86, 3) := dk_182 0 86 (dk_at dksJ13_copyOf_0 3 rfl rfl)
theorem dJ13_copyOf_6 : decode cJ13_copyOf 6 = .ok (.invokestatic 300, 3) := dk_184 1 44 (dk_at dksJ13_copyOf_0 6 rfl rfl)
theorem dJ13_copyOf_9 : decode cJ13_copyOf 9 = .ok (.areturn, 1) := dk_176 (dk_at dksJ13_copyOf_0 9 rfl rfl)
abbrev cJ13_copyOf_2 : ByteArray := prog_40_method_120_code
def yJ13_copyOf_2 : MethodName := ⟨RJ13, "copyOf", "([Ljava/lang/Object;ILjava/lang/Class;)[Ljava/lang/Object;"⟩
def dkwJ13_copyOf_2_1 : List UInt8 := [78, 42, 3, 45, 3, 42, 190, 27, 184, 1, 48, 184, 0, 150, 45, 176]
abbrev dktJ13_copyOf_2_1 : List UInt8 := dkwJ13_copyOf_2_1 ++ []
def dkwJ13_copyOf_2_0 : List UInt8 := [44, 18, 110, 166, 0, 10, 27, 189, 0, 2, 167, 0, 14, 44, 182, 0, 90, 27, 184, 0, 95, 192, 0, 110]
abbrev dktJ13_copyOf_2_0 : List UInt8 := dkwJ13_copyOf_2_0 ++ dktJ13_copyOf_2_1
theorem dksJ13_copyOf_2_0 : cJ13_copyOf_2.data.toList.drop 0 = dktJ13_copyOf_2_0 := by decide +kernel
theorem dksJ13_copyOf_2_1 : cJ13_copyOf_2.data.toList.drop 24 = dktJ13_copyOf_2_1 := dk_seg dksJ13_copyOf_2_0 24 rfl rfl
theorem dJ13_copyOf_2_0 : decode cJ13_copyOf_2 0 = .ok (.aload_n 2, 1) := dk_44 (dk_at dksJ13_copyOf_2_0 0 rfl rfl)
theorem dJ13_copyOf_2_1 : decode cJ13_copyOf_2 1 = .ok (.ldc 110, 2) := dk_18 110 (dk_at dksJ13_copyOf_2_0 1 rfl rfl)
theorem dJ13_copyOf_2_3 : decode cJ13_copyOf_2 3 = .ok (.if_acmp .ne 10, 3) := dk_166 0 10 (dk_at dksJ13_copyOf_2_0 3 rfl rfl)
theorem dJ13_copyOf_2_6 : decode cJ13_copyOf_2 6 = .ok (.iload_n 1, 1) := dk_27 (dk_at dksJ13_copyOf_2_0 6 rfl rfl)
theorem dJ13_copyOf_2_7 : decode cJ13_copyOf_2 7 = .ok (.anewarray 2, 3) := dk_189 0 2 (dk_at dksJ13_copyOf_2_0 7 rfl rfl)
theorem dJ13_copyOf_2_10 : decode cJ13_copyOf_2 10 = .ok (.goto 14, 3) := dk_167 0 14 (dk_at dksJ13_copyOf_2_0 10 rfl rfl)
theorem dJ13_copyOf_2_13 : decode cJ13_copyOf_2 13 = .ok (.aload_n 2, 1) := dk_44 (dk_at dksJ13_copyOf_2_0 13 rfl rfl)
theorem dJ13_copyOf_2_14 : decode cJ13_copyOf_2 14 = .ok (.invokevirtual 90, 3) := dk_182 0 90 (dk_at dksJ13_copyOf_2_0 14 rfl rfl)
theorem dJ13_copyOf_2_17 : decode cJ13_copyOf_2 17 = .ok (.iload_n 1, 1) := dk_27 (dk_at dksJ13_copyOf_2_0 17 rfl rfl)
theorem dJ13_copyOf_2_18 : decode cJ13_copyOf_2 18 = .ok (.invokestatic 95, 3) := dk_184 0 95 (dk_at dksJ13_copyOf_2_0 18 rfl rfl)
theorem dJ13_copyOf_2_21 : decode cJ13_copyOf_2 21 = .ok (.checkcast 110, 3) := dk_192 0 110 (dk_at dksJ13_copyOf_2_0 21 rfl rfl)
theorem dJ13_copyOf_2_24 : decode cJ13_copyOf_2 24 = .ok (.astore_n 3, 1) := dk_78 (dk_at dksJ13_copyOf_2_1 0 rfl rfl)
theorem dJ13_copyOf_2_25 : decode cJ13_copyOf_2 25 = .ok (.aload_n 0, 1) := dk_42 (dk_at dksJ13_copyOf_2_1 1 rfl rfl)
theorem dJ13_copyOf_2_26 : decode cJ13_copyOf_2 26 = .ok (.iconst 0, 1) := dk_3 (dk_at dksJ13_copyOf_2_1 2 rfl rfl)
theorem dJ13_copyOf_2_27 : decode cJ13_copyOf_2 27 = .ok (.aload_n 3, 1) := dk_45 (dk_at dksJ13_copyOf_2_1 3 rfl rfl)
theorem dJ13_copyOf_2_28 : decode cJ13_copyOf_2 28 = .ok (.iconst 0, 1) := dk_3 (dk_at dksJ13_copyOf_2_1 4 rfl rfl)
theorem dJ13_copyOf_2_29 : decode cJ13_copyOf_2 29 = .ok (.aload_n 0, 1) := dk_42 (dk_at dksJ13_copyOf_2_1 5 rfl rfl)
theorem dJ13_copyOf_2_30 : decode cJ13_copyOf_2 30 = .ok (.arraylength, 1) := dk_190 (dk_at dksJ13_copyOf_2_1 6 rfl rfl)
theorem dJ13_copyOf_2_31 : decode cJ13_copyOf_2 31 = .ok (.iload_n 1, 1) := dk_27 (dk_at dksJ13_copyOf_2_1 7 rfl rfl)
theorem dJ13_copyOf_2_32 : decode cJ13_copyOf_2 32 = .ok (.invokestatic 304, 3) := dk_184 1 48 (dk_at dksJ13_copyOf_2_1 8 rfl rfl)
theorem dJ13_copyOf_2_35 : decode cJ13_copyOf_2 35 = .ok (.invokestatic 150, 3) := dk_184 0 150 (dk_at dksJ13_copyOf_2_1 11 rfl rfl)
theorem dJ13_copyOf_2_38 : decode cJ13_copyOf_2 38 = .ok (.aload_n 3, 1) := dk_45 (dk_at dksJ13_copyOf_2_1 14 rfl rfl)
theorem dJ13_copyOf_2_39 : decode cJ13_copyOf_2 39 = .ok (.areturn, 1) := dk_176 (dk_at dksJ13_copyOf_2_1 15 rfl rfl)
theorem q170 : (Jvm.Cond.initialized "java/util/Arrays") ∈ lw_all := lw_g (lw_at lw_m1 21 rfl) rfl
theorem q696 : (Jvm.Cond.static ({ cls := "java/util/Arrays", name := "copyOf", desc := "([Ljava/lang/Object;I)[Ljava/lang/Object;" } : Jvm.MethodName)) ∈ lw_all := lw_g (lw_at lw_m3 67 rfl) rfl
theorem q697 : (Jvm.Cond.code ({ cls := "java/util/Arrays", name := "copyOf", desc := "([Ljava/lang/Object;I)[Ljava/lang/Object;" } : Jvm.MethodName) prog_40_method_119_code (2 : Nat) (Option.some (Jvm.ClassFile.FieldType.array (Jvm.ClassFile.FieldType.object "java/lang/Object")))) ∈ lw_all := lw_g (lw_at lw_m3 68 rfl) rfl
theorem q698 : (Jvm.Cond.methodLink "java/util/Arrays" (86 : Nat) ({ cls := "java/lang/Object", name := "getClass", desc := "()Ljava/lang/Class;" } : Jvm.MethodName)) ∈ lw_all := lw_g (lw_at lw_m3 69 rfl) rfl
theorem q720 : (Jvm.Cond.methodLink "java/util/Arrays" (300 : Nat) ({ cls := "java/util/Arrays", name := "copyOf", desc := "([Ljava/lang/Object;ILjava/lang/Class;)[Ljava/lang/Object;" } : Jvm.MethodName)) ∈ lw_all := lw_g (lw_at lw_m3 91 rfl) rfl
theorem q721 : (Jvm.Cond.static ({ cls := "java/util/Arrays", name := "copyOf", desc := "([Ljava/lang/Object;ILjava/lang/Class;)[Ljava/lang/Object;" } : Jvm.MethodName)) ∈ lw_all := lw_g (lw_at lw_m3 92 rfl) rfl
theorem q722 : (Jvm.Cond.code ({ cls := "java/util/Arrays", name := "copyOf", desc := "([Ljava/lang/Object;ILjava/lang/Class;)[Ljava/lang/Object;" } : Jvm.MethodName) prog_40_method_120_code (4 : Nat) (Option.some (Jvm.ClassFile.FieldType.array (Jvm.ClassFile.FieldType.object "java/lang/Object")))) ∈ lw_all := lw_g (lw_at lw_m3 93 rfl) rfl
theorem q723 : (Jvm.Cond.classLink "java/util/Arrays" (110 : Nat) "[Ljava/lang/Object;") ∈ lw_all := lw_g (lw_at lw_m3 94 rfl) rfl
theorem q724 : (Jvm.Cond.classLink "java/util/Arrays" (2 : Nat) "java/lang/Object") ∈ lw_all := lw_g (lw_at lw_m3 95 rfl) rfl
theorem q725 : (Jvm.Cond.methodLink "java/util/Arrays" (304 : Nat) ({ cls := "java/lang/Math", name := "min", desc := "(II)I" } : Jvm.MethodName)) ∈ lw_all := lw_g (lw_at lw_m3 96 rfl) rfl
theorem q728 : (Jvm.Cond.methodLink "java/util/Arrays" (150 : Nat) ({ cls := "java/lang/System", name := "arraycopy", desc := "(Ljava/lang/Object;ILjava/lang/Object;II)V" } : Jvm.MethodName)) ∈ lw_all := lw_g (lw_at lw_m3 99 rfl) rfl

/-! java/lang/Long -/
set_option maxRecDepth 100000
def RJ14 : String := "java/lang/Long"
abbrev cJ14_signum : ByteArray := prog_27_method_57_code
def yJ14_signum : MethodName := ⟨RJ14, "signum", "(J)I"⟩
def dkwJ14_signum_0 : List UInt8 := [30, 16, 63, 123, 30, 117, 16, 63, 125, 129, 136, 172]
abbrev dktJ14_signum_0 : List UInt8 := dkwJ14_signum_0 ++ []
theorem dksJ14_signum_0 : cJ14_signum.data.toList.drop 0 = dktJ14_signum_0 := by decide +kernel
theorem dJ14_signum_0 : decode cJ14_signum 0 = .ok (.lload_n 0, 1) := dk_30 (dk_at dksJ14_signum_0 0 rfl rfl)
theorem dJ14_signum_1 : decode cJ14_signum 1 = .ok (.bipush 63, 2) := dk_16 63 (dk_at dksJ14_signum_0 1 rfl rfl)
theorem dJ14_signum_3 : decode cJ14_signum 3 = .ok (.lshr, 1) := dk_123 (dk_at dksJ14_signum_0 3 rfl rfl)
theorem dJ14_signum_4 : decode cJ14_signum 4 = .ok (.lload_n 0, 1) := dk_30 (dk_at dksJ14_signum_0 4 rfl rfl)
theorem dJ14_signum_5 : decode cJ14_signum 5 = .ok (.lneg, 1) := dk_117 (dk_at dksJ14_signum_0 5 rfl rfl)
theorem dJ14_signum_6 : decode cJ14_signum 6 = .ok (.bipush 63, 2) := dk_16 63 (dk_at dksJ14_signum_0 6 rfl rfl)
theorem dJ14_signum_8 : decode cJ14_signum 8 = .ok (.lushr, 1) := dk_125 (dk_at dksJ14_signum_0 8 rfl rfl)
theorem dJ14_signum_9 : decode cJ14_signum 9 = .ok (.lor, 1) := dk_129 (dk_at dksJ14_signum_0 9 rfl rfl)
theorem dJ14_signum_10 : decode cJ14_signum 10 = .ok (.l2i, 1) := dk_136 (dk_at dksJ14_signum_0 10 rfl rfl)
theorem dJ14_signum_11 : decode cJ14_signum 11 = .ok (.ireturn, 1) := dk_172 (dk_at dksJ14_signum_0 11 rfl rfl)
theorem q183 : (Jvm.Cond.initialized "java/lang/Long") ∈ lw_all := lw_g (lw_at lw_m1 34 rfl) rfl
theorem q1109 : (Jvm.Cond.static ({ cls := "java/lang/Long", name := "signum", desc := "(J)I" } : Jvm.MethodName)) ∈ lw_all := lw_g (lw_at lw_m5 0 rfl) rfl
theorem q1110 : (Jvm.Cond.code ({ cls := "java/lang/Long", name := "signum", desc := "(J)I" } : Jvm.MethodName) prog_27_method_57_code (2 : Nat) (Option.some Jvm.ClassFile.FieldType.int)) ∈ lw_all := lw_g (lw_at lw_m5 1 rfl) rfl

/-! java/lang/Object -/
set_option maxRecDepth 100000
def RJ15 : String := "java/lang/Object"
abbrev cJ15_init : ByteArray := object_method_1_code
def yJ15_init : MethodName := ⟨RJ15, "<init>", "()V"⟩
theorem dJ15_init_0 : decode cJ15_init 0 = .ok (.return_, 1) := by decide +kernel
theorem q191 : (Jvm.Cond.instanceMethod ({ cls := "java/lang/Object", name := "<init>", desc := "()V" } : Jvm.MethodName)) ∈ lw_all := lw_g (lw_at lw_m1 42 rfl) rfl
theorem q192 : (Jvm.Cond.code ({ cls := "java/lang/Object", name := "<init>", desc := "()V" } : Jvm.MethodName) object_method_1_code (1 : Nat) (Option.none : Option Jvm.ClassFile.FieldType)) ∈ lw_all := lw_g (lw_at lw_m1 43 rfl) rfl
theorem q699 : (Jvm.Cond.instanceMethod ({ cls := "java/lang/Object", name := "getClass", desc := "()Ljava/lang/Class;" } : Jvm.MethodName)) ∈ lw_all := lw_g (lw_at lw_m3 70 rfl) rfl
theorem q700 : (Jvm.Cond.sameMethod "java/lang/Object" "java/lang/Object" "getClass" "()Ljava/lang/Class;") ∈ lw_all := lw_g (lw_at lw_m3 71 rfl) rfl
theorem q719 : (Jvm.Cond.native ({ cls := "java/lang/Object", name := "getClass", desc := "()Ljava/lang/Class;" } : Jvm.MethodName)) ∈ lw_all := lw_g (lw_at lw_m3 90 rfl) rfl
theorem q2002 : (Jvm.Cond.initialized "java/lang/Object") ∈ lw_all := lw_g (lw_at lw_m8 173 rfl) rfl
theorem q2025 : (Jvm.Cond.declares ({ cls := "java/lang/Object", name := "getClass", desc := "()Ljava/lang/Class;" } : Jvm.MethodName)) ∈ lw_tbl := lw_at lw_m8 196 rfl

/-! java/util/ArrayList -/
set_option maxRecDepth 100000
def RJ2 : String := "java/util/ArrayList"
def TJ2 : u_T := fun k => match k with
  | 0 => ("java/util/AbstractList", "modCount", "I", false)
  | 1 => ("java/util/ArrayList", "elementData", "[Ljava/lang/Object;", false)
  | _ => ("java/util/ArrayList", "size", "I", false)
def tyJ2 : Nat → FieldType := fun k => match k with
  | 0 => .int
  | 1 => .array (.object "java/lang/Object")
  | _ => .int
abbrev wsJ20 : List Cond := u_ws RJ2 TJ2 3
theorem nmJ2 : ∀ a, a < 3 → ∀ b, b < 3 → a ≠ b → (TJ2 a).2.1 ≠ (TJ2 b).2.1 := by decide +kernel
theorem tyJ2_ok : ∀ k, k < 3 → parseFieldDescriptor (TJ2 k).2.2.1 = some (tyJ2 k) := by decide +kernel
abbrev cJ2_init : ByteArray := prog_39_method_1_code
def yJ2_init : MethodName := ⟨RJ2, "<init>", "(I)V"⟩
def dkwJ2_init_2 : List UInt8 := [182, 0, 25, 27, 182, 0, 29, 182, 0, 32, 183, 0, 36, 191, 177]
abbrev dktJ2_init_2 : List UInt8 := dkwJ2_init_2 ++ []
def dkwJ2_init_1 : List UInt8 := [178, 0, 15, 181, 0, 9, 167, 0, 30, 187, 0, 18, 89, 187, 0, 20, 89, 183, 0, 22, 18, 23]
abbrev dktJ2_init_1 : List UInt8 := dkwJ2_init_1 ++ dktJ2_init_2
def dkwJ2_init_0 : List UInt8 := [42, 183, 0, 1, 27, 158, 0, 14, 42, 27, 189, 0, 7, 181, 0, 9, 167, 0, 44, 27, 154, 0, 13, 42]
abbrev dktJ2_init_0 : List UInt8 := dkwJ2_init_0 ++ dktJ2_init_1
theorem dksJ2_init_0 : cJ2_init.data.toList.drop 0 = dktJ2_init_0 := by decide +kernel
theorem dksJ2_init_1 : cJ2_init.data.toList.drop 24 = dktJ2_init_1 := dk_seg dksJ2_init_0 24 rfl rfl
theorem dksJ2_init_2 : cJ2_init.data.toList.drop 46 = dktJ2_init_2 := dk_seg dksJ2_init_1 22 rfl rfl
theorem dJ2_init_0 : decode cJ2_init 0 = .ok (.aload_n 0, 1) := dk_42 (dk_at dksJ2_init_0 0 rfl rfl)
theorem dJ2_init_1 : decode cJ2_init 1 = .ok (.invokespecial 1, 3) := dk_183 0 1 (dk_at dksJ2_init_0 1 rfl rfl)
theorem dJ2_init_4 : decode cJ2_init 4 = .ok (.iload_n 1, 1) := dk_27 (dk_at dksJ2_init_0 4 rfl rfl)
theorem dJ2_init_5 : decode cJ2_init 5 = .ok (.ifCond .le 14, 3) := dk_158 0 14 (dk_at dksJ2_init_0 5 rfl rfl)
theorem dJ2_init_8 : decode cJ2_init 8 = .ok (.aload_n 0, 1) := dk_42 (dk_at dksJ2_init_0 8 rfl rfl)
theorem dJ2_init_9 : decode cJ2_init 9 = .ok (.iload_n 1, 1) := dk_27 (dk_at dksJ2_init_0 9 rfl rfl)
theorem dJ2_init_10 : decode cJ2_init 10 = .ok (.anewarray 7, 3) := dk_189 0 7 (dk_at dksJ2_init_0 10 rfl rfl)
theorem dJ2_init_13 : decode cJ2_init 13 = .ok (.putfield 9, 3) := dk_181 0 9 (dk_at dksJ2_init_0 13 rfl rfl)
theorem dJ2_init_16 : decode cJ2_init 16 = .ok (.goto 44, 3) := dk_167 0 44 (dk_at dksJ2_init_0 16 rfl rfl)
theorem dJ2_init_19 : decode cJ2_init 19 = .ok (.iload_n 1, 1) := dk_27 (dk_at dksJ2_init_0 19 rfl rfl)
theorem dJ2_init_20 : decode cJ2_init 20 = .ok (.ifCond .ne 13, 3) := dk_154 0 13 (dk_at dksJ2_init_0 20 rfl rfl)
theorem dJ2_init_23 : decode cJ2_init 23 = .ok (.aload_n 0, 1) := dk_42 (dk_at dksJ2_init_0 23 rfl rfl)
theorem dJ2_init_24 : decode cJ2_init 24 = .ok (.getstatic 15, 3) := dk_178 0 15 (dk_at dksJ2_init_1 0 rfl rfl)
theorem dJ2_init_27 : decode cJ2_init 27 = .ok (.putfield 9, 3) := dk_181 0 9 (dk_at dksJ2_init_1 3 rfl rfl)
theorem dJ2_init_30 : decode cJ2_init 30 = .ok (.goto 30, 3) := dk_167 0 30 (dk_at dksJ2_init_1 6 rfl rfl)
theorem dJ2_init_33 : decode cJ2_init 33 = .ok (.new 18, 3) := dk_187 0 18 (dk_at dksJ2_init_1 9 rfl rfl)
theorem dJ2_init_36 : decode cJ2_init 36 = .ok (.dup, 1) := dk_89 (dk_at dksJ2_init_1 12 rfl rfl)
theorem dJ2_init_37 : decode cJ2_init 37 = .ok (.new 20, 3) := dk_187 0 20 (dk_at dksJ2_init_1 13 rfl rfl)
theorem dJ2_init_40 : decode cJ2_init 40 = .ok (.dup, 1) := dk_89 (dk_at dksJ2_init_1 16 rfl rfl)
theorem dJ2_init_41 : decode cJ2_init 41 = .ok (.invokespecial 22, 3) := dk_183 0 22 (dk_at dksJ2_init_1 17 rfl rfl)
theorem dJ2_init_44 : decode cJ2_init 44 = .ok (.ldc 23, 2) := dk_18 23 (dk_at dksJ2_init_1 20 rfl rfl)
theorem dJ2_init_46 : decode cJ2_init 46 = .ok (.invokevirtual 25, 3) := dk_182 0 25 (dk_at dksJ2_init_2 0 rfl rfl)
theorem dJ2_init_49 : decode cJ2_init 49 = .ok (.iload_n 1, 1) := dk_27 (dk_at dksJ2_init_2 3 rfl rfl)
theorem dJ2_init_50 : decode cJ2_init 50 = .ok (.invokevirtual 29, 3) := dk_182 0 29 (dk_at dksJ2_init_2 4 rfl rfl)
theorem dJ2_init_53 : decode cJ2_init 53 = .ok (.invokevirtual 32, 3) := dk_182 0 32 (dk_at dksJ2_init_2 7 rfl rfl)
theorem dJ2_init_56 : decode cJ2_init 56 = .ok (.invokespecial 36, 3) := dk_183 0 36 (dk_at dksJ2_init_2 10 rfl rfl)
theorem dJ2_init_59 : decode cJ2_init 59 = .ok (.athrow, 1) := dk_191 (dk_at dksJ2_init_2 13 rfl rfl)
theorem dJ2_init_60 : decode cJ2_init 60 = .ok (.return_, 1) := dk_177 (dk_at dksJ2_init_2 14 rfl rfl)
abbrev cJ2_size : ByteArray := prog_39_method_8_code
def yJ2_size : MethodName := ⟨RJ2, "size", "()I"⟩
theorem dJ2_size_0 : decode cJ2_size 0 = .ok (.aload_n 0, 1) := by decide +kernel
theorem dJ2_size_1 : decode cJ2_size 1 = .ok (.getfield 48, 3) := by decide +kernel
theorem dJ2_size_4 : decode cJ2_size 4 = .ok (.ireturn, 1) := by decide +kernel
abbrev cJ2_get : ByteArray := prog_39_method_20_code
def yJ2_get : MethodName := ⟨RJ2, "get", "(I)Ljava/lang/Object;"⟩
def dkwJ2_get_0 : List UInt8 := [27, 42, 180, 0, 48, 184, 0, 118, 87, 42, 27, 182, 0, 123, 176]
abbrev dktJ2_get_0 : List UInt8 := dkwJ2_get_0 ++ []
theorem dksJ2_get_0 : cJ2_get.data.toList.drop 0 = dktJ2_get_0 := by decide +kernel
theorem dJ2_get_0 : decode cJ2_get 0 = .ok (.iload_n 1, 1) := dk_27 (dk_at dksJ2_get_0 0 rfl rfl)
theorem dJ2_get_1 : decode cJ2_get 1 = .ok (.aload_n 0, 1) := dk_42 (dk_at dksJ2_get_0 1 rfl rfl)
theorem dJ2_get_2 : decode cJ2_get 2 = .ok (.getfield 48, 3) := dk_180 0 48 (dk_at dksJ2_get_0 2 rfl rfl)
theorem dJ2_get_5 : decode cJ2_get 5 = .ok (.invokestatic 118, 3) := dk_184 0 118 (dk_at dksJ2_get_0 5 rfl rfl)
theorem dJ2_get_8 : decode cJ2_get 8 = .ok (.pop, 1) := dk_87 (dk_at dksJ2_get_0 8 rfl rfl)
theorem dJ2_get_9 : decode cJ2_get 9 = .ok (.aload_n 0, 1) := dk_42 (dk_at dksJ2_get_0 9 rfl rfl)
theorem dJ2_get_10 : decode cJ2_get 10 = .ok (.iload_n 1, 1) := dk_27 (dk_at dksJ2_get_0 10 rfl rfl)
theorem dJ2_get_11 : decode cJ2_get 11 = .ok (.invokevirtual 123, 3) := dk_182 0 123 (dk_at dksJ2_get_0 11 rfl rfl)
theorem dJ2_get_14 : decode cJ2_get 14 = .ok (.areturn, 1) := dk_176 (dk_at dksJ2_get_0 14 rfl rfl)
abbrev cJ2_elementData : ByteArray := prog_39_method_18_code
def yJ2_elementData : MethodName := ⟨RJ2, "elementData", "(I)Ljava/lang/Object;"⟩
def dkwJ2_elementData_0 : List UInt8 := [42, 180, 0, 9, 27, 50, 176]
abbrev dktJ2_elementData_0 : List UInt8 := dkwJ2_elementData_0 ++ []
theorem dksJ2_elementData_0 : cJ2_elementData.data.toList.drop 0 = dktJ2_elementData_0 := by decide +kernel
theorem dJ2_elementData_0 : decode cJ2_elementData 0 = .ok (.aload_n 0, 1) := dk_42 (dk_at dksJ2_elementData_0 0 rfl rfl)
theorem dJ2_elementData_1 : decode cJ2_elementData 1 = .ok (.getfield 9, 3) := dk_180 0 9 (dk_at dksJ2_elementData_0 1 rfl rfl)
theorem dJ2_elementData_4 : decode cJ2_elementData 4 = .ok (.iload_n 1, 1) := dk_27 (dk_at dksJ2_elementData_0 4 rfl rfl)
theorem dJ2_elementData_5 : decode cJ2_elementData 5 = .ok (.aaload, 1) := dk_50 (dk_at dksJ2_elementData_0 5 rfl rfl)
theorem dJ2_elementData_6 : decode cJ2_elementData 6 = .ok (.areturn, 1) := dk_176 (dk_at dksJ2_elementData_0 6 rfl rfl)
abbrev cJ2_add : ByteArray := prog_39_method_25_code
def yJ2_add : MethodName := ⟨RJ2, "add", "(Ljava/lang/Object;)Z"⟩
def dkwJ2_add_1 : List UInt8 := [172]
abbrev dktJ2_add_1 : List UInt8 := dkwJ2_add_1 ++ []
def dkwJ2_add_0 : List UInt8 := [42, 89, 180, 0, 63, 4, 96, 181, 0, 63, 42, 43, 42, 180, 0, 9, 42, 180, 0, 48, 182, 0, 131, 4]
abbrev dktJ2_add_0 : List UInt8 := dkwJ2_add_0 ++ dktJ2_add_1
theorem dksJ2_add_0 : cJ2_add.data.toList.drop 0 = dktJ2_add_0 := by decide +kernel
theorem dksJ2_add_1 : cJ2_add.data.toList.drop 24 = dktJ2_add_1 := dk_seg dksJ2_add_0 24 rfl rfl
theorem dJ2_add_0 : decode cJ2_add 0 = .ok (.aload_n 0, 1) := dk_42 (dk_at dksJ2_add_0 0 rfl rfl)
theorem dJ2_add_1 : decode cJ2_add 1 = .ok (.dup, 1) := dk_89 (dk_at dksJ2_add_0 1 rfl rfl)
theorem dJ2_add_2 : decode cJ2_add 2 = .ok (.getfield 63, 3) := dk_180 0 63 (dk_at dksJ2_add_0 2 rfl rfl)
theorem dJ2_add_5 : decode cJ2_add 5 = .ok (.iconst 1, 1) := dk_4 (dk_at dksJ2_add_0 5 rfl rfl)
theorem dJ2_add_6 : decode cJ2_add 6 = .ok (.iadd, 1) := dk_96 (dk_at dksJ2_add_0 6 rfl rfl)
theorem dJ2_add_7 : decode cJ2_add 7 = .ok (.putfield 63, 3) := dk_181 0 63 (dk_at dksJ2_add_0 7 rfl rfl)
theorem dJ2_add_10 : decode cJ2_add 10 = .ok (.aload_n 0, 1) := dk_42 (dk_at dksJ2_add_0 10 rfl rfl)
theorem dJ2_add_11 : decode cJ2_add 11 = .ok (.aload_n 1, 1) := dk_43 (dk_at dksJ2_add_0 11 rfl rfl)
theorem dJ2_add_12 : decode cJ2_add 12 = .ok (.aload_n 0, 1) := dk_42 (dk_at dksJ2_add_0 12 rfl rfl)
theorem dJ2_add_13 : decode cJ2_add 13 = .ok (.getfield 9, 3) := dk_180 0 9 (dk_at dksJ2_add_0 13 rfl rfl)
theorem dJ2_add_16 : decode cJ2_add 16 = .ok (.aload_n 0, 1) := dk_42 (dk_at dksJ2_add_0 16 rfl rfl)
theorem dJ2_add_17 : decode cJ2_add 17 = .ok (.getfield 48, 3) := dk_180 0 48 (dk_at dksJ2_add_0 17 rfl rfl)
theorem dJ2_add_20 : decode cJ2_add 20 = .ok (.invokevirtual 131, 3) := dk_182 0 131 (dk_at dksJ2_add_0 20 rfl rfl)
theorem dJ2_add_23 : decode cJ2_add 23 = .ok (.iconst 1, 1) := dk_4 (dk_at dksJ2_add_0 23 rfl rfl)
theorem dJ2_add_24 : decode cJ2_add 24 = .ok (.ireturn, 1) := dk_172 (dk_at dksJ2_add_1 0 rfl rfl)
abbrev cJ2_add_2 : ByteArray := prog_39_method_24_code
def yJ2_add_2 : MethodName := ⟨RJ2, "add", "(Ljava/lang/Object;[Ljava/lang/Object;I)V"⟩
def dkwJ2_add_2_0 : List UInt8 := [29, 44, 190, 160, 0, 8, 42, 182, 0, 129, 77, 44, 29, 43, 83, 42, 29, 4, 96, 181, 0, 48, 177]
abbrev dktJ2_add_2_0 : List UInt8 := dkwJ2_add_2_0 ++ []
theorem dksJ2_add_2_0 : cJ2_add_2.data.toList.drop 0 = dktJ2_add_2_0 := by decide +kernel
theorem dJ2_add_2_0 : decode cJ2_add_2 0 = .ok (.iload_n 3, 1) := dk_29 (dk_at dksJ2_add_2_0 0 rfl rfl)
theorem dJ2_add_2_1 : decode cJ2_add_2 1 = .ok (.aload_n 2, 1) := dk_44 (dk_at dksJ2_add_2_0 1 rfl rfl)
theorem dJ2_add_2_2 : decode cJ2_add_2 2 = .ok (.arraylength, 1) := dk_190 (dk_at dksJ2_add_2_0 2 rfl rfl)
theorem dJ2_add_2_3 : decode cJ2_add_2 3 = .ok (.if_icmp .ne 8, 3) := dk_160 0 8 (dk_at dksJ2_add_2_0 3 rfl rfl)
theorem dJ2_add_2_6 : decode cJ2_add_2 6 = .ok (.aload_n 0, 1) := dk_42 (dk_at dksJ2_add_2_0 6 rfl rfl)
theorem dJ2_add_2_7 : decode cJ2_add_2 7 = .ok (.invokevirtual 129, 3) := dk_182 0 129 (dk_at dksJ2_add_2_0 7 rfl rfl)
theorem dJ2_add_2_10 : decode cJ2_add_2 10 = .ok (.astore_n 2, 1) := dk_77 (dk_at dksJ2_add_2_0 10 rfl rfl)
theorem dJ2_add_2_11 : decode cJ2_add_2 11 = .ok (.aload_n 2, 1) := dk_44 (dk_at dksJ2_add_2_0 11 rfl rfl)
theorem dJ2_add_2_12 : decode cJ2_add_2 12 = .ok (.iload_n 3, 1) := dk_29 (dk_at dksJ2_add_2_0 12 rfl rfl)
theorem dJ2_add_2_13 : decode cJ2_add_2 13 = .ok (.aload_n 1, 1) := dk_43 (dk_at dksJ2_add_2_0 13 rfl rfl)
theorem dJ2_add_2_14 : decode cJ2_add_2 14 = .ok (.aastore, 1) := dk_83 (dk_at dksJ2_add_2_0 14 rfl rfl)
theorem dJ2_add_2_15 : decode cJ2_add_2 15 = .ok (.aload_n 0, 1) := dk_42 (dk_at dksJ2_add_2_0 15 rfl rfl)
theorem dJ2_add_2_16 : decode cJ2_add_2 16 = .ok (.iload_n 3, 1) := dk_29 (dk_at dksJ2_add_2_0 16 rfl rfl)
theorem dJ2_add_2_17 : decode cJ2_add_2 17 = .ok (.iconst 1, 1) := dk_4 (dk_at dksJ2_add_2_0 17 rfl rfl)
theorem dJ2_add_2_18 : decode cJ2_add_2 18 = .ok (.iadd, 1) := dk_96 (dk_at dksJ2_add_2_0 18 rfl rfl)
theorem dJ2_add_2_19 : decode cJ2_add_2 19 = .ok (.putfield 48, 3) := dk_181 0 48 (dk_at dksJ2_add_2_0 19 rfl rfl)
theorem dJ2_add_2_22 : decode cJ2_add_2 22 = .ok (.return_, 1) := dk_177 (dk_at dksJ2_add_2_0 22 rfl rfl)
abbrev cJ2_grow : ByteArray := prog_39_method_7_code
def yJ2_grow : MethodName := ⟨RJ2, "grow", "()[Ljava/lang/Object;"⟩
def dkwJ2_grow_0 : List UInt8 := [42, 42, 180, 0, 48, 4, 96, 182, 0, 69, 176]
abbrev dktJ2_grow_0 : List UInt8 := dkwJ2_grow_0 ++ []
theorem dksJ2_grow_0 : cJ2_grow.data.toList.drop 0 = dktJ2_grow_0 := by decide +kernel
theorem dJ2_grow_0 : decode cJ2_grow 0 = .ok (.aload_n 0, 1) := dk_42 (dk_at dksJ2_grow_0 0 rfl rfl)
theorem dJ2_grow_1 : decode cJ2_grow 1 = .ok (.aload_n 0, 1) := dk_42 (dk_at dksJ2_grow_0 1 rfl rfl)
theorem dJ2_grow_2 : decode cJ2_grow 2 = .ok (.getfield 48, 3) := dk_180 0 48 (dk_at dksJ2_grow_0 2 rfl rfl)
theorem dJ2_grow_5 : decode cJ2_grow 5 = .ok (.iconst 1, 1) := dk_4 (dk_at dksJ2_grow_0 5 rfl rfl)
theorem dJ2_grow_6 : decode cJ2_grow 6 = .ok (.iadd, 1) := dk_96 (dk_at dksJ2_grow_0 6 rfl rfl)
theorem dJ2_grow_7 : decode cJ2_grow 7 = .ok (.invokevirtual 69, 3) := dk_182 0 69 (dk_at dksJ2_grow_0 7 rfl rfl)
theorem dJ2_grow_10 : decode cJ2_grow 10 = .ok (.areturn, 1) := dk_176 (dk_at dksJ2_grow_0 10 rfl rfl)
abbrev cJ2_grow_2 : ByteArray := prog_39_method_6_code
def yJ2_grow_2 : MethodName := ⟨RJ2, "grow", "(I)[Ljava/lang/Object;"⟩
def dkwJ2_grow_2_2 : List UInt8 := [27, 184, 0, 79, 189, 0, 7, 90, 181, 0, 9, 176]
abbrev dktJ2_grow_2_2 : List UInt8 := dkwJ2_grow_2_2 ++ []
def dkwJ2_grow_2_1 : List UInt8 := [28, 4, 122, 184, 0, 73, 62, 42, 42, 180, 0, 9, 29, 184, 0, 66, 90, 181, 0, 9, 176, 42, 16, 10]
abbrev dktJ2_grow_2_1 : List UInt8 := dkwJ2_grow_2_1 ++ dktJ2_grow_2_2
def dkwJ2_grow_2_0 : List UInt8 := [42, 180, 0, 9, 190, 61, 28, 157, 0, 13, 42, 180, 0, 9, 178, 0, 39, 165, 0, 28, 28, 27, 28, 100]
abbrev dktJ2_grow_2_0 : List UInt8 := dkwJ2_grow_2_0 ++ dktJ2_grow_2_1
theorem dksJ2_grow_2_0 : cJ2_grow_2.data.toList.drop 0 = dktJ2_grow_2_0 := by decide +kernel
theorem dksJ2_grow_2_1 : cJ2_grow_2.data.toList.drop 24 = dktJ2_grow_2_1 := dk_seg dksJ2_grow_2_0 24 rfl rfl
theorem dksJ2_grow_2_2 : cJ2_grow_2.data.toList.drop 48 = dktJ2_grow_2_2 := dk_seg dksJ2_grow_2_1 24 rfl rfl
theorem dJ2_grow_2_0 : decode cJ2_grow_2 0 = .ok (.aload_n 0, 1) := dk_42 (dk_at dksJ2_grow_2_0 0 rfl rfl)
theorem dJ2_grow_2_1 : decode cJ2_grow_2 1 = .ok (.getfield 9, 3) := dk_180 0 9 (dk_at dksJ2_grow_2_0 1 rfl rfl)
theorem dJ2_grow_2_4 : decode cJ2_grow_2 4 = .ok (.arraylength, 1) := dk_190 (dk_at dksJ2_grow_2_0 4 rfl rfl)
theorem dJ2_grow_2_5 : decode cJ2_grow_2 5 = .ok (.istore_n 2, 1) := dk_61 (dk_at dksJ2_grow_2_0 5 rfl rfl)
theorem dJ2_grow_2_6 : decode cJ2_grow_2 6 = .ok (.iload_n 2, 1) := dk_28 (dk_at dksJ2_grow_2_0 6 rfl rfl)
theorem dJ2_grow_2_7 : decode cJ2_grow_2 7 = .ok (.ifCond .gt 13, 3) := dk_157 0 13 (dk_at dksJ2_grow_2_0 7 rfl rfl)
theorem dJ2_grow_2_10 : decode cJ2_grow_2 10 = .ok (.aload_n 0, 1) := dk_42 (dk_at dksJ2_grow_2_0 10 rfl rfl)
theorem dJ2_grow_2_11 : decode cJ2_grow_2 11 = .ok (.getfield 9, 3) := dk_180 0 9 (dk_at dksJ2_grow_2_0 11 rfl rfl)
theorem dJ2_grow_2_14 : decode cJ2_grow_2 14 = .ok (.getstatic 39, 3) := dk_178 0 39 (dk_at dksJ2_grow_2_0 14 rfl rfl)
theorem dJ2_grow_2_17 : decode cJ2_grow_2 17 = .ok (.if_acmp .eq 28, 3) := dk_165 0 28 (dk_at dksJ2_grow_2_0 17 rfl rfl)
theorem dJ2_grow_2_20 : decode cJ2_grow_2 20 = .ok (.iload_n 2, 1) := dk_28 (dk_at dksJ2_grow_2_0 20 rfl rfl)
theorem dJ2_grow_2_21 : decode cJ2_grow_2 21 = .ok (.iload_n 1, 1) := dk_27 (dk_at dksJ2_grow_2_0 21 rfl rfl)
theorem dJ2_grow_2_22 : decode cJ2_grow_2 22 = .ok (.iload_n 2, 1) := dk_28 (dk_at dksJ2_grow_2_0 22 rfl rfl)
theorem dJ2_grow_2_23 : decode cJ2_grow_2 23 = .ok (.isub, 1) := dk_100 (dk_at dksJ2_grow_2_0 23 rfl rfl)
theorem dJ2_grow_2_24 : decode cJ2_grow_2 24 = .ok (.iload_n 2, 1) := dk_28 (dk_at dksJ2_grow_2_1 0 rfl rfl)
theorem dJ2_grow_2_25 : decode cJ2_grow_2 25 = .ok (.iconst 1, 1) := dk_4 (dk_at dksJ2_grow_2_1 1 rfl rfl)
theorem dJ2_grow_2_26 : decode cJ2_grow_2 26 = .ok (.ishr, 1) := dk_122 (dk_at dksJ2_grow_2_1 2 rfl rfl)
theorem dJ2_grow_2_27 : decode cJ2_grow_2 27 = .ok (.invokestatic 73, 3) := dk_184 0 73 (dk_at dksJ2_grow_2_1 3 rfl rfl)
theorem dJ2_grow_2_30 : decode cJ2_grow_2 30 = .ok (.istore_n 3, 1) := dk_62 (dk_at dksJ2_grow_2_1 6 rfl rfl)
theorem dJ2_grow_2_31 : decode cJ2_grow_2 31 = .ok (.aload_n 0, 1) := dk_42 (dk_at dksJ2_grow_2_1 7 rfl rfl)
theorem dJ2_grow_2_32 : decode cJ2_grow_2 32 = .ok (.aload_n 0, 1) := dk_42 (dk_at dksJ2_grow_2_1 8 rfl rfl)
theorem dJ2_grow_2_33 : decode cJ2_grow_2 33 = .ok (.getfield 9, 3) := dk_180 0 9 (dk_at dksJ2_grow_2_1 9 rfl rfl)
theorem dJ2_grow_2_36 : decode cJ2_grow_2 36 = .ok (.iload_n 3, 1) := dk_29 (dk_at dksJ2_grow_2_1 12 rfl rfl)
theorem dJ2_grow_2_37 : decode cJ2_grow_2 37 = .ok (.invokestatic 66, 3) := dk_184 0 66 (dk_at dksJ2_grow_2_1 13 rfl rfl)
theorem dJ2_grow_2_40 : decode cJ2_grow_2 40 = .ok (.dup_x1, 1) := dk_90 (dk_at dksJ2_grow_2_1 16 rfl rfl)
theorem dJ2_grow_2_41 : decode cJ2_grow_2 41 = .ok (.putfield 9, 3) := dk_181 0 9 (dk_at dksJ2_grow_2_1 17 rfl rfl)
theorem dJ2_grow_2_44 : decode cJ2_grow_2 44 = .ok (.areturn, 1) := dk_176 (dk_at dksJ2_grow_2_1 20 rfl rfl)
theorem dJ2_grow_2_45 : decode cJ2_grow_2 45 = .ok (.aload_n 0, 1) := dk_42 (dk_at dksJ2_grow_2_1 21 rfl rfl)
theorem dJ2_grow_2_46 : decode cJ2_grow_2 46 = .ok (.bipush 10, 2) := dk_16 10 (dk_at dksJ2_grow_2_1 22 rfl rfl)
theorem dJ2_grow_2_48 : decode cJ2_grow_2 48 = .ok (.iload_n 1, 1) := dk_27 (dk_at dksJ2_grow_2_2 0 rfl rfl)
theorem dJ2_grow_2_49 : decode cJ2_grow_2 49 = .ok (.invokestatic 79, 3) := dk_184 0 79 (dk_at dksJ2_grow_2_2 1 rfl rfl)
theorem dJ2_grow_2_52 : decode cJ2_grow_2 52 = .ok (.anewarray 7, 3) := dk_189 0 7 (dk_at dksJ2_grow_2_2 4 rfl rfl)
theorem dJ2_grow_2_55 : decode cJ2_grow_2 55 = .ok (.dup_x1, 1) := dk_90 (dk_at dksJ2_grow_2_2 7 rfl rfl)
theorem dJ2_grow_2_56 : decode cJ2_grow_2 56 = .ok (.putfield 9, 3) := dk_181 0 9 (dk_at dksJ2_grow_2_2 8 rfl rfl)
theorem dJ2_grow_2_59 : decode cJ2_grow_2 59 = .ok (.areturn, 1) := dk_176 (dk_at dksJ2_grow_2_2 11 rfl rfl)
theorem q154 : (Jvm.Cond.initialized "java/util/ArrayList") ∈ lw_all := lw_g (lw_at lw_m1 5 rfl) rfl
theorem q200 : (Jvm.Cond.instantiable "java/util/ArrayList" (3 : Nat)) ∈ lw_all := lw_g (lw_at lw_m1 51 rfl) rfl
theorem q202 : (Jvm.Cond.instanceMethod ({ cls := "java/util/ArrayList", name := "<init>", desc := "(I)V" } : Jvm.MethodName)) ∈ lw_all := lw_g (lw_at lw_m1 53 rfl) rfl
theorem q203 : (Jvm.Cond.code ({ cls := "java/util/ArrayList", name := "<init>", desc := "(I)V" } : Jvm.MethodName) prog_39_method_1_code (2 : Nat) (Option.none : Option Jvm.ClassFile.FieldType)) ∈ lw_all := lw_g (lw_at lw_m1 54 rfl) rfl
theorem q204 : (Jvm.Cond.methodLink "java/util/ArrayList" (1 : Nat) ({ cls := "java/util/AbstractList", name := "<init>", desc := "()V" } : Jvm.MethodName)) ∈ lw_all := lw_g (lw_at lw_m1 55 rfl) rfl
theorem q211 : (Jvm.Cond.classLink "java/util/ArrayList" (7 : Nat) "java/lang/Object") ∈ lw_all := lw_g (lw_at lw_m1 62 rfl) rfl
theorem q213 : (Jvm.Cond.fieldLink "java/util/ArrayList" (15 : Nat) "java/util/ArrayList" "EMPTY_ELEMENTDATA" "[Ljava/lang/Object;") ∈ lw_all := lw_g (lw_at lw_m1 64 rfl) rfl
theorem q214 : (Jvm.Cond.laysStatic "java/util/ArrayList" "EMPTY_ELEMENTDATA" "[Ljava/lang/Object;") ∈ lw_tbl := lw_at lw_m1 65 rfl
theorem q215 : (Jvm.Cond.fieldLink "java/util/ArrayList" (9 : Nat) "java/util/ArrayList" "elementData" "[Ljava/lang/Object;") ∈ lw_all := lw_g (lw_at lw_m1 66 rfl) rfl
theorem q216 : (Jvm.Cond.fieldLink "java/util/ArrayList" (48 : Nat) "java/util/ArrayList" "size" "I") ∈ lw_all := lw_g (lw_at lw_m1 67 rfl) rfl
theorem q218 : (Jvm.Cond.fieldLink "java/util/ArrayList" (63 : Nat) "java/util/ArrayList" "modCount" "I") ∈ lw_all := lw_g (lw_at lw_m1 69 rfl) rfl
theorem q219 : (Jvm.Cond.sameField "java/util/ArrayList" "java/util/AbstractList" "modCount" "I") ∈ lw_all := lw_g (lw_at lw_m1 70 rfl) rfl
theorem q220 : (Jvm.Cond.lays "java/util/ArrayList" "java/util/ArrayList" "elementData" "[Ljava/lang/Object;") ∈ lw_all := lw_g (lw_at lw_m1 71 rfl) rfl
theorem q221 : (Jvm.Cond.soleField "java/util/ArrayList" "elementData") ∈ lw_all := lw_g (lw_at lw_m1 72 rfl) rfl
theorem q222 : (Jvm.Cond.lays "java/util/ArrayList" "java/util/ArrayList" "size" "I") ∈ lw_all := lw_g (lw_at lw_m1 73 rfl) rfl
theorem q223 : (Jvm.Cond.soleField "java/util/ArrayList" "size") ∈ lw_all := lw_g (lw_at lw_m1 74 rfl) rfl
theorem q224 : (Jvm.Cond.lays "java/util/ArrayList" "java/util/AbstractList" "modCount" "I") ∈ lw_all := lw_g (lw_at lw_m1 75 rfl) rfl
theorem q226 : (Jvm.Cond.superclass "java/util/ArrayList" "java/util/AbstractList") ∈ lw_all := lw_g (lw_at lw_m1 77 rfl) rfl
theorem q525 : (Jvm.Cond.instanceMethod ({ cls := "java/util/ArrayList", name := "size", desc := "()I" } : Jvm.MethodName)) ∈ lw_all := lw_g (lw_at lw_m2 136 rfl) rfl
theorem q526 : (Jvm.Cond.selects "java/util/ArrayList" ({ cls := "java/util/ArrayList", name := "size", desc := "()I" } : Jvm.MethodName) ({ cls := "java/util/ArrayList", name := "size", desc := "()I" } : Jvm.MethodName)) ∈ lw_all := lw_g (lw_at lw_m2 137 rfl) rfl
theorem q527 : (Jvm.Cond.code ({ cls := "java/util/ArrayList", name := "size", desc := "()I" } : Jvm.MethodName) prog_39_method_8_code (1 : Nat) (Option.some Jvm.ClassFile.FieldType.int)) ∈ lw_all := lw_g (lw_at lw_m2 138 rfl) rfl
theorem q628 : (Jvm.Cond.instanceMethod ({ cls := "java/util/ArrayList", name := "get", desc := "(I)Ljava/lang/Object;" } : Jvm.MethodName)) ∈ lw_all := lw_g (lw_at lw_m2 239 rfl) rfl
theorem q629 : (Jvm.Cond.selects "java/util/ArrayList" ({ cls := "java/util/ArrayList", name := "get", desc := "(I)Ljava/lang/Object;" } : Jvm.MethodName) ({ cls := "java/util/ArrayList", name := "get", desc := "(I)Ljava/lang/Object;" } : Jvm.MethodName)) ∈ lw_all := lw_g (lw_at lw_m3 0 rfl) rfl
theorem q630 : (Jvm.Cond.code ({ cls := "java/util/ArrayList", name := "get", desc := "(I)Ljava/lang/Object;" } : Jvm.MethodName) prog_39_method_20_code (2 : Nat) (Option.some (Jvm.ClassFile.FieldType.object "java/lang/Object"))) ∈ lw_all := lw_g (lw_at lw_m3 1 rfl) rfl
theorem q631 : (Jvm.Cond.methodLink "java/util/ArrayList" (118 : Nat) ({ cls := "java/util/Objects", name := "checkIndex", desc := "(II)I" } : Jvm.MethodName)) ∈ lw_all := lw_g (lw_at lw_m3 2 rfl) rfl
theorem q635 : (Jvm.Cond.methodLink "java/util/ArrayList" (123 : Nat) ({ cls := "java/util/ArrayList", name := "elementData", desc := "(I)Ljava/lang/Object;" } : Jvm.MethodName)) ∈ lw_all := lw_g (lw_at lw_m3 6 rfl) rfl
theorem q636 : (Jvm.Cond.instanceMethod ({ cls := "java/util/ArrayList", name := "elementData", desc := "(I)Ljava/lang/Object;" } : Jvm.MethodName)) ∈ lw_all := lw_g (lw_at lw_m3 7 rfl) rfl
theorem q637 : (Jvm.Cond.selects "java/util/ArrayList" ({ cls := "java/util/ArrayList", name := "elementData", desc := "(I)Ljava/lang/Object;" } : Jvm.MethodName) ({ cls := "java/util/ArrayList", name := "elementData", desc := "(I)Ljava/lang/Object;" } : Jvm.MethodName)) ∈ lw_all := lw_g (lw_at lw_m3 8 rfl) rfl
theorem q638 : (Jvm.Cond.code ({ cls := "java/util/ArrayList", name := "elementData", desc := "(I)Ljava/lang/Object;" } : Jvm.MethodName) prog_39_method_18_code (2 : Nat) (Option.some (Jvm.ClassFile.FieldType.object "java/lang/Object"))) ∈ lw_all := lw_g (lw_at lw_m3 9 rfl) rfl
theorem q668 : (Jvm.Cond.instanceMethod ({ cls := "java/util/ArrayList", name := "add", desc := "(Ljava/lang/Object;)Z" } : Jvm.MethodName)) ∈ lw_all := lw_g (lw_at lw_m3 39 rfl) rfl
theorem q669 : (Jvm.Cond.selects "java/util/ArrayList" ({ cls := "java/util/ArrayList", name := "add", desc := "(Ljava/lang/Object;)Z" } : Jvm.MethodName) ({ cls := "java/util/ArrayList", name := "add", desc := "(Ljava/lang/Object;)Z" } : Jvm.MethodName)) ∈ lw_all := lw_g (lw_at lw_m3 40 rfl) rfl
theorem q670 : (Jvm.Cond.code ({ cls := "java/util/ArrayList", name := "add", desc := "(Ljava/lang/Object;)Z" } : Jvm.MethodName) prog_39_method_25_code (2 : Nat) (Option.some Jvm.ClassFile.FieldType.boolean)) ∈ lw_all := lw_g (lw_at lw_m3 41 rfl) rfl
theorem q671 : (Jvm.Cond.methodLink "java/util/ArrayList" (131 : Nat) ({ cls := "java/util/ArrayList", name := "add", desc := "(Ljava/lang/Object;[Ljava/lang/Object;I)V" } : Jvm.MethodName)) ∈ lw_all := lw_g (lw_at lw_m3 42 rfl) rfl
theorem q672 : (Jvm.Cond.privateMethod ({ cls := "java/util/ArrayList", name := "add", desc := "(Ljava/lang/Object;[Ljava/lang/Object;I)V" } : Jvm.MethodName)) ∈ lw_tbl := lw_at lw_m3 43 rfl
theorem q673 : (Jvm.Cond.instanceMethod ({ cls := "java/util/ArrayList", name := "add", desc := "(Ljava/lang/Object;[Ljava/lang/Object;I)V" } : Jvm.MethodName)) ∈ lw_all := lw_g (lw_at lw_m3 44 rfl) rfl
theorem q674 : (Jvm.Cond.code ({ cls := "java/util/ArrayList", name := "add", desc := "(Ljava/lang/Object;[Ljava/lang/Object;I)V" } : Jvm.MethodName) prog_39_method_24_code (4 : Nat) (Option.none : Option Jvm.ClassFile.FieldType)) ∈ lw_all := lw_g (lw_at lw_m3 45 rfl) rfl
theorem q675 : (Jvm.Cond.methodLink "java/util/ArrayList" (129 : Nat) ({ cls := "java/util/ArrayList", name := "grow", desc := "()[Ljava/lang/Object;" } : Jvm.MethodName)) ∈ lw_all := lw_g (lw_at lw_m3 46 rfl) rfl
theorem q676 : (Jvm.Cond.privateMethod ({ cls := "java/util/ArrayList", name := "grow", desc := "()[Ljava/lang/Object;" } : Jvm.MethodName)) ∈ lw_tbl := lw_at lw_m3 47 rfl
theorem q677 : (Jvm.Cond.instanceMethod ({ cls := "java/util/ArrayList", name := "grow", desc := "()[Ljava/lang/Object;" } : Jvm.MethodName)) ∈ lw_all := lw_g (lw_at lw_m3 48 rfl) rfl
theorem q678 : (Jvm.Cond.code ({ cls := "java/util/ArrayList", name := "grow", desc := "()[Ljava/lang/Object;" } : Jvm.MethodName) prog_39_method_7_code (1 : Nat) (Option.some (Jvm.ClassFile.FieldType.array (Jvm.ClassFile.FieldType.object "java/lang/Object")))) ∈ lw_all := lw_g (lw_at lw_m3 49 rfl) rfl
theorem q679 : (Jvm.Cond.methodLink "java/util/ArrayList" (69 : Nat) ({ cls := "java/util/ArrayList", name := "grow", desc := "(I)[Ljava/lang/Object;" } : Jvm.MethodName)) ∈ lw_all := lw_g (lw_at lw_m3 50 rfl) rfl
theorem q680 : (Jvm.Cond.privateMethod ({ cls := "java/util/ArrayList", name := "grow", desc := "(I)[Ljava/lang/Object;" } : Jvm.MethodName)) ∈ lw_tbl := lw_at lw_m3 51 rfl
theorem q681 : (Jvm.Cond.instanceMethod ({ cls := "java/util/ArrayList", name := "grow", desc := "(I)[Ljava/lang/Object;" } : Jvm.MethodName)) ∈ lw_all := lw_g (lw_at lw_m3 52 rfl) rfl
theorem q682 : (Jvm.Cond.code ({ cls := "java/util/ArrayList", name := "grow", desc := "(I)[Ljava/lang/Object;" } : Jvm.MethodName) prog_39_method_6_code (4 : Nat) (Option.some (Jvm.ClassFile.FieldType.array (Jvm.ClassFile.FieldType.object "java/lang/Object")))) ∈ lw_all := lw_g (lw_at lw_m3 53 rfl) rfl
theorem q683 : (Jvm.Cond.fieldLink "java/util/ArrayList" (39 : Nat) "java/util/ArrayList" "DEFAULTCAPACITY_EMPTY_ELEMENTDATA" "[Ljava/lang/Object;") ∈ lw_all := lw_g (lw_at lw_m3 54 rfl) rfl
theorem q684 : (Jvm.Cond.laysStatic "java/util/ArrayList" "DEFAULTCAPACITY_EMPTY_ELEMENTDATA" "[Ljava/lang/Object;") ∈ lw_tbl := lw_at lw_m3 55 rfl
theorem q685 : (Jvm.Cond.methodLink "java/util/ArrayList" (73 : Nat) ({ cls := "jdk/internal/util/ArraysSupport", name := "newLength", desc := "(III)I" } : Jvm.MethodName)) ∈ lw_all := lw_g (lw_at lw_m3 56 rfl) rfl
theorem q695 : (Jvm.Cond.methodLink "java/util/ArrayList" (66 : Nat) ({ cls := "java/util/Arrays", name := "copyOf", desc := "([Ljava/lang/Object;I)[Ljava/lang/Object;" } : Jvm.MethodName)) ∈ lw_all := lw_g (lw_at lw_m3 66 rfl) rfl
theorem q718 : (Jvm.Cond.selects "java/util/ArrayList" ({ cls := "java/lang/Object", name := "getClass", desc := "()Ljava/lang/Class;" } : Jvm.MethodName) ({ cls := "java/lang/Object", name := "getClass", desc := "()Ljava/lang/Class;" } : Jvm.MethodName)) ∈ lw_all := lw_g (lw_at lw_m3 89 rfl) rfl
theorem q731 : (Jvm.Cond.methodLink "java/util/ArrayList" (79 : Nat) ({ cls := "java/lang/Math", name := "max", desc := "(II)I" } : Jvm.MethodName)) ∈ lw_all := lw_g (lw_at lw_m3 102 rfl) rfl
theorem q2008 : (Jvm.Cond.castable "java/util/ArrayList" "java/lang/Object") ∈ lw_tbl := lw_at lw_m8 179 rfl
theorem in_J2 : ∀ w ∈ wsJ20, w ∈ lw_all := lw_in wsJ20 [224, 220, 222] (by decide +kernel) (by decide +kernel)

/-! java/lang/Throwable -/
set_option maxRecDepth 100000
def RJ3 : String := "java/lang/Throwable"
def TJ3 : u_T := fun k => match k with
  | 0 => ("java/lang/Throwable", "cause", "Ljava/lang/Throwable;", false)
  | 1 => ("java/lang/Throwable", "stackTrace", "[Ljava/lang/StackTraceElement;", false)
  | 2 => ("java/lang/Throwable", "suppressedExceptions", "Ljava/util/List;", false)
  | 3 => ("java/lang/Throwable", "detailMessage", "Ljava/lang/String;", false)
  | _ => ("java/lang/Throwable", "backtrace", "Ljava/lang/Object;", false)
def tyJ3 : Nat → FieldType := fun k => match k with
  | 0 => .object "java/lang/Throwable"
  | 1 => .array (.object "java/lang/StackTraceElement")
  | 2 => .object "java/util/List"
  | 3 => .object "java/lang/String"
  | _ => .object "java/lang/Object"
abbrev wsJ30 : List Cond := u_ws RJ3 TJ3 5
theorem nmJ3 : ∀ a, a < 5 → ∀ b, b < 5 → a ≠ b → (TJ3 a).2.1 ≠ (TJ3 b).2.1 := by decide +kernel
theorem tyJ3_ok : ∀ k, k < 5 → parseFieldDescriptor (TJ3 k).2.2.1 = some (tyJ3 k) := by decide +kernel
abbrev cJ3_init : ByteArray := prog_34_method_1_code
def yJ3_init : MethodName := ⟨RJ3, "<init>", "()V"⟩
def dkwJ3_init_1 : List UInt8 := [182, 0, 27, 87, 177]
abbrev dktJ3_init_1 : List UInt8 := dkwJ3_init_1 ++ []
def dkwJ3_init_0 : List UInt8 := [42, 183, 0, 1, 42, 42, 181, 0, 7, 42, 178, 0, 13, 181, 0, 17, 42, 178, 0, 20, 181, 0, 24, 42]
abbrev dktJ3_init_0 : List UInt8 := dkwJ3_init_0 ++ dktJ3_init_1
theorem dksJ3_init_0 : cJ3_init.data.toList.drop 0 = dktJ3_init_0 := by decide +kernel
theorem dksJ3_init_1 : cJ3_init.data.toList.drop 24 = dktJ3_init_1 := dk_seg dksJ3_init_0 24 rfl rfl
theorem dJ3_init_0 : decode cJ3_init 0 = .ok (.aload_n 0, 1) := dk_42 (dk_at dksJ3_init_0 0 rfl rfl)
theorem dJ3_init_1 : decode cJ3_init 1 = .ok (.invokespecial 1, 3) := dk_183 0 1 (dk_at dksJ3_init_0 1 rfl rfl)
theorem dJ3_init_4 : decode cJ3_init 4 = .ok (.aload_n 0, 1) := dk_42 (dk_at dksJ3_init_0 4 rfl rfl)
theorem dJ3_init_5 : decode cJ3_init 5 = .ok (.aload_n 0, 1) := dk_42 (dk_at dksJ3_init_0 5 rfl rfl)
theorem dJ3_init_6 : decode cJ3_init 6 = .ok (.putfield 7, 3) := dk_181 0 7 (dk_at dksJ3_init_0 6 rfl rfl)
theorem dJ3_init_9 : decode cJ3_init 9 = .ok (.aload_n 0, 1) := dk_42 (dk_at dksJ3_init_0 9 rfl rfl)
theorem dJ3_init_10 : decode cJ3_init 10 = .ok (.getstatic 13, 3) := dk_178 0 13 (dk_at dksJ3_init_0 10 rfl rfl)
theorem dJ3_init_13 : decode cJ3_init 13 = .ok (.putfield 17, 3) := dk_181 0 17 (dk_at dksJ3_init_0 13 rfl rfl)
theorem dJ3_init_16 : decode cJ3_init 16 = .ok (.aload_n 0, 1) := dk_42 (dk_at dksJ3_init_0 16 rfl rfl)
theorem dJ3_init_17 : decode cJ3_init 17 = .ok (.getstatic 20, 3) := dk_178 0 20 (dk_at dksJ3_init_0 17 rfl rfl)
theorem dJ3_init_20 : decode cJ3_init 20 = .ok (.putfield 24, 3) := dk_181 0 24 (dk_at dksJ3_init_0 20 rfl rfl)
theorem dJ3_init_23 : decode cJ3_init 23 = .ok (.aload_n 0, 1) := dk_42 (dk_at dksJ3_init_0 23 rfl rfl)
theorem dJ3_init_24 : decode cJ3_init 24 = .ok (.invokevirtual 27, 3) := dk_182 0 27 (dk_at dksJ3_init_1 0 rfl rfl)
theorem dJ3_init_27 : decode cJ3_init 27 = .ok (.pop, 1) := dk_87 (dk_at dksJ3_init_1 3 rfl rfl)
theorem dJ3_init_28 : decode cJ3_init 28 = .ok (.return_, 1) := dk_177 (dk_at dksJ3_init_1 4 rfl rfl)
theorem q156 : (Jvm.Cond.initialized "java/lang/Throwable") ∈ lw_all := lw_g (lw_at lw_m1 7 rfl) rfl
theorem q295 : (Jvm.Cond.declares ({ cls := "java/lang/Throwable", name := "<init>", desc := "()V" } : Jvm.MethodName)) ∈ lw_tbl := lw_at lw_m1 146 rfl
theorem q296 : (Jvm.Cond.declares ({ cls := "java/lang/Throwable", name := "<init>", desc := "(Ljava/lang/String;)V" } : Jvm.MethodName)) ∈ lw_tbl := lw_at lw_m1 147 rfl
theorem q300 : (Jvm.Cond.lays "java/lang/Throwable" "java/lang/Throwable" "cause" "Ljava/lang/Throwable;") ∈ lw_all := lw_g (lw_at lw_m1 151 rfl) rfl
theorem q302 : (Jvm.Cond.lays "java/lang/Throwable" "java/lang/Throwable" "stackTrace" "[Ljava/lang/StackTraceElement;") ∈ lw_all := lw_g (lw_at lw_m1 153 rfl) rfl
theorem q304 : (Jvm.Cond.lays "java/lang/Throwable" "java/lang/Throwable" "suppressedExceptions" "Ljava/util/List;") ∈ lw_all := lw_g (lw_at lw_m1 155 rfl) rfl
theorem q306 : (Jvm.Cond.lays "java/lang/Throwable" "java/lang/Throwable" "detailMessage" "Ljava/lang/String;") ∈ lw_all := lw_g (lw_at lw_m1 157 rfl) rfl
theorem q308 : (Jvm.Cond.lays "java/lang/Throwable" "java/lang/Throwable" "backtrace" "Ljava/lang/Object;") ∈ lw_all := lw_g (lw_at lw_m1 159 rfl) rfl
theorem q309 : (Jvm.Cond.fieldLink "java/lang/Throwable" (198 : Nat) "java/lang/Throwable" "backtrace" "Ljava/lang/Object;") ∈ lw_all := lw_g (lw_at lw_m1 160 rfl) rfl
theorem q310 : (Jvm.Cond.superclass "java/lang/Throwable" "java/lang/Object") ∈ lw_all := lw_g (lw_at lw_m1 161 rfl) rfl
theorem q311 : (Jvm.Cond.instanceMethod ({ cls := "java/lang/Throwable", name := "<init>", desc := "()V" } : Jvm.MethodName)) ∈ lw_all := lw_g (lw_at lw_m1 162 rfl) rfl
theorem q312 : (Jvm.Cond.code ({ cls := "java/lang/Throwable", name := "<init>", desc := "()V" } : Jvm.MethodName) prog_34_method_1_code (1 : Nat) (Option.none : Option Jvm.ClassFile.FieldType)) ∈ lw_all := lw_g (lw_at lw_m1 163 rfl) rfl
theorem q313 : (Jvm.Cond.methodLink "java/lang/Throwable" (1 : Nat) ({ cls := "java/lang/Object", name := "<init>", desc := "()V" } : Jvm.MethodName)) ∈ lw_all := lw_g (lw_at lw_m1 164 rfl) rfl
theorem q314 : (Jvm.Cond.fieldLink "java/lang/Throwable" (13 : Nat) "java/lang/Throwable" "UNASSIGNED_STACK" "[Ljava/lang/StackTraceElement;") ∈ lw_all := lw_g (lw_at lw_m1 165 rfl) rfl
theorem q315 : (Jvm.Cond.laysStatic "java/lang/Throwable" "UNASSIGNED_STACK" "[Ljava/lang/StackTraceElement;") ∈ lw_tbl := lw_at lw_m1 166 rfl
theorem q316 : (Jvm.Cond.fieldLink "java/lang/Throwable" (20 : Nat) "java/lang/Throwable" "SUPPRESSED_SENTINEL" "Ljava/util/List;") ∈ lw_all := lw_g (lw_at lw_m1 167 rfl) rfl
theorem q317 : (Jvm.Cond.laysStatic "java/lang/Throwable" "SUPPRESSED_SENTINEL" "Ljava/util/List;") ∈ lw_tbl := lw_at lw_m1 168 rfl
theorem q318 : (Jvm.Cond.methodLink "java/lang/Throwable" (27 : Nat) ({ cls := "java/lang/Throwable", name := "fillInStackTrace", desc := "()Ljava/lang/Throwable;" } : Jvm.MethodName)) ∈ lw_all := lw_g (lw_at lw_m1 169 rfl) rfl
theorem q319 : (Jvm.Cond.instanceMethod ({ cls := "java/lang/Throwable", name := "fillInStackTrace", desc := "()Ljava/lang/Throwable;" } : Jvm.MethodName)) ∈ lw_all := lw_g (lw_at lw_m1 170 rfl) rfl
theorem q320 : (Jvm.Cond.sameMethod "java/lang/Throwable" "java/lang/Throwable" "fillInStackTrace" "()Ljava/lang/Throwable;") ∈ lw_all := lw_g (lw_at lw_m1 171 rfl) rfl
theorem q321 : (Jvm.Cond.codeSync ({ cls := "java/lang/Throwable", name := "fillInStackTrace", desc := "()Ljava/lang/Throwable;" } : Jvm.MethodName) prog_34_method_18_code (1 : Nat) (Option.some (Jvm.ClassFile.FieldType.object "java/lang/Throwable"))) ∈ lw_all := lw_g (lw_at lw_m1 172 rfl) rfl
theorem q322 : (Jvm.Cond.methodLink "java/lang/Throwable" (202 : Nat) ({ cls := "java/lang/Throwable", name := "fillInStackTrace", desc := "(I)Ljava/lang/Throwable;" } : Jvm.MethodName)) ∈ lw_all := lw_g (lw_at lw_m1 173 rfl) rfl
theorem q323 : (Jvm.Cond.privateMethod ({ cls := "java/lang/Throwable", name := "fillInStackTrace", desc := "(I)Ljava/lang/Throwable;" } : Jvm.MethodName)) ∈ lw_tbl := lw_at lw_m1 174 rfl
theorem q324 : (Jvm.Cond.instanceMethod ({ cls := "java/lang/Throwable", name := "fillInStackTrace", desc := "(I)Ljava/lang/Throwable;" } : Jvm.MethodName)) ∈ lw_all := lw_g (lw_at lw_m1 175 rfl) rfl
theorem q325 : (Jvm.Cond.instantiable "java/lang/Throwable" (6 : Nat)) ∈ lw_all := lw_g (lw_at lw_m1 176 rfl) rfl
theorem q326 : (Jvm.Cond.native ({ cls := "java/lang/Throwable", name := "fillInStackTrace", desc := "(I)Ljava/lang/Throwable;" } : Jvm.MethodName)) ∈ lw_all := lw_g (lw_at lw_m1 177 rfl) rfl
theorem q335 : (Jvm.Cond.fieldLink "java/lang/Throwable" (198 : Nat) "java/lang/Throwable" "backtrace" "Ljava/lang/Object;") ∈ lw_all := lw_g (lw_at lw_m1 186 rfl) rfl
theorem q336 : (Jvm.Cond.fieldLink "java/lang/Throwable" (7 : Nat) "java/lang/Throwable" "cause" "Ljava/lang/Throwable;") ∈ lw_all := lw_g (lw_at lw_m1 187 rfl) rfl
theorem q337 : (Jvm.Cond.fieldLink "java/lang/Throwable" (17 : Nat) "java/lang/Throwable" "stackTrace" "[Ljava/lang/StackTraceElement;") ∈ lw_all := lw_g (lw_at lw_m1 188 rfl) rfl
theorem q338 : (Jvm.Cond.fieldLink "java/lang/Throwable" (24 : Nat) "java/lang/Throwable" "suppressedExceptions" "Ljava/util/List;") ∈ lw_all := lw_g (lw_at lw_m1 189 rfl) rfl
theorem q341 : (Jvm.Cond.soleField "java/lang/Throwable" "backtrace") ∈ lw_all := lw_g (lw_at lw_m1 192 rfl) rfl
theorem q342 : (Jvm.Cond.soleField "java/lang/Throwable" "detailMessage") ∈ lw_all := lw_g (lw_at lw_m1 193 rfl) rfl
theorem q343 : (Jvm.Cond.soleField "java/lang/Throwable" "cause") ∈ lw_all := lw_g (lw_at lw_m1 194 rfl) rfl
theorem q344 : (Jvm.Cond.soleField "java/lang/Throwable" "stackTrace") ∈ lw_all := lw_g (lw_at lw_m1 195 rfl) rfl
theorem q346 : (Jvm.Cond.soleField "java/lang/Throwable" "depth") ∈ lw_all := lw_g (lw_at lw_m1 197 rfl) rfl
theorem q347 : (Jvm.Cond.soleField "java/lang/Throwable" "suppressedExceptions") ∈ lw_all := lw_g (lw_at lw_m1 198 rfl) rfl
theorem q2001 : (Jvm.Cond.sameMethod "java/lang/Throwable" "java/lang/Throwable" "fillInStackTrace" "(I)Ljava/lang/Throwable;") ∈ lw_all := lw_g (lw_at lw_m8 172 rfl) rfl
theorem q2022 : (Jvm.Cond.castable "java/lang/Throwable" "java/lang/Object") ∈ lw_tbl := lw_at lw_m8 193 rfl
theorem in_J3 : ∀ w ∈ wsJ30, w ∈ lw_all := lw_in wsJ30 [300, 302, 304, 306, 308] (by decide +kernel) (by decide +kernel)

/-! java/lang/Exception -/
set_option maxRecDepth 100000
def RJ4 : String := "java/lang/Exception"
abbrev cJ4_init : ByteArray := prog_25_method_1_code
def yJ4_init : MethodName := ⟨RJ4, "<init>", "()V"⟩
theorem dJ4_init_0 : decode cJ4_init 0 = .ok (.aload_n 0, 1) := by decide +kernel
theorem dJ4_init_1 : decode cJ4_init 1 = .ok (.invokespecial 1, 3) := by decide +kernel
theorem dJ4_init_4 : decode cJ4_init 4 = .ok (.return_, 1) := by decide +kernel
theorem q157 : (Jvm.Cond.initialized "java/lang/Exception") ∈ lw_all := lw_g (lw_at lw_m1 8 rfl) rfl
theorem q293 : (Jvm.Cond.declares ({ cls := "java/lang/Exception", name := "<init>", desc := "()V" } : Jvm.MethodName)) ∈ lw_tbl := lw_at lw_m1 144 rfl
theorem q294 : (Jvm.Cond.declares ({ cls := "java/lang/Exception", name := "<init>", desc := "(Ljava/lang/String;)V" } : Jvm.MethodName)) ∈ lw_tbl := lw_at lw_m1 145 rfl
theorem q331 : (Jvm.Cond.instanceMethod ({ cls := "java/lang/Exception", name := "<init>", desc := "()V" } : Jvm.MethodName)) ∈ lw_all := lw_g (lw_at lw_m1 182 rfl) rfl
theorem q332 : (Jvm.Cond.code ({ cls := "java/lang/Exception", name := "<init>", desc := "()V" } : Jvm.MethodName) prog_25_method_1_code (1 : Nat) (Option.none : Option Jvm.ClassFile.FieldType)) ∈ lw_all := lw_g (lw_at lw_m1 183 rfl) rfl
theorem q333 : (Jvm.Cond.methodLink "java/lang/Exception" (1 : Nat) ({ cls := "java/lang/Throwable", name := "<init>", desc := "()V" } : Jvm.MethodName)) ∈ lw_all := lw_g (lw_at lw_m1 184 rfl) rfl

/-! java/lang/String -/
set_option maxRecDepth 100000
def RJ5 : String := "java/lang/String"
abbrev cJ5_length : ByteArray := prog_30_method_54_code
def yJ5_length : MethodName := ⟨RJ5, "length", "()I"⟩
def dkwJ5_length_0 : List UInt8 := [42, 180, 0, 9, 190, 42, 182, 1, 79, 122, 172]
abbrev dktJ5_length_0 : List UInt8 := dkwJ5_length_0 ++ []
theorem dksJ5_length_0 : cJ5_length.data.toList.drop 0 = dktJ5_length_0 := by decide +kernel
theorem dJ5_length_0 : decode cJ5_length 0 = .ok (.aload_n 0, 1) := dk_42 (dk_at dksJ5_length_0 0 rfl rfl)
theorem dJ5_length_1 : decode cJ5_length 1 = .ok (.getfield 9, 3) := dk_180 0 9 (dk_at dksJ5_length_0 1 rfl rfl)
theorem dJ5_length_4 : decode cJ5_length 4 = .ok (.arraylength, 1) := dk_190 (dk_at dksJ5_length_0 4 rfl rfl)
theorem dJ5_length_5 : decode cJ5_length 5 = .ok (.aload_n 0, 1) := dk_42 (dk_at dksJ5_length_0 5 rfl rfl)
theorem dJ5_length_6 : decode cJ5_length 6 = .ok (.invokevirtual 335, 3) := dk_182 1 79 (dk_at dksJ5_length_0 6 rfl rfl)
theorem dJ5_length_9 : decode cJ5_length 9 = .ok (.ishr, 1) := dk_122 (dk_at dksJ5_length_0 9 rfl rfl)
theorem dJ5_length_10 : decode cJ5_length 10 = .ok (.ireturn, 1) := dk_172 (dk_at dksJ5_length_0 10 rfl rfl)
abbrev cJ5_coder : ByteArray := prog_30_method_152_code
def yJ5_coder : MethodName := ⟨RJ5, "coder", "()B"⟩
def dkwJ5_coder_0 : List UInt8 := [178, 0, 38, 153, 0, 10, 42, 180, 0, 15, 167, 0, 4, 4, 172]
abbrev dktJ5_coder_0 : List UInt8 := dkwJ5_coder_0 ++ []
theorem dksJ5_coder_0 : cJ5_coder.data.toList.drop 0 = dktJ5_coder_0 := by decide +kernel
theorem dJ5_coder_0 : decode cJ5_coder 0 = .ok (.getstatic 38, 3) := dk_178 0 38 (dk_at dksJ5_coder_0 0 rfl rfl)
theorem dJ5_coder_3 : decode cJ5_coder 3 = .ok (.ifCond .eq 10, 3) := dk_153 0 10 (dk_at dksJ5_coder_0 3 rfl rfl)
theorem dJ5_coder_6 : decode cJ5_coder 6 = .ok (.aload_n 0, 1) := dk_42 (dk_at dksJ5_coder_0 6 rfl rfl)
theorem dJ5_coder_7 : decode cJ5_coder 7 = .ok (.getfield 15, 3) := dk_180 0 15 (dk_at dksJ5_coder_0 7 rfl rfl)
theorem dJ5_coder_10 : decode cJ5_coder 10 = .ok (.goto 4, 3) := dk_167 0 4 (dk_at dksJ5_coder_0 10 rfl rfl)
theorem dJ5_coder_13 : decode cJ5_coder 13 = .ok (.iconst 1, 1) := dk_4 (dk_at dksJ5_coder_0 13 rfl rfl)
theorem dJ5_coder_14 : decode cJ5_coder 14 = .ok (.ireturn, 1) := dk_172 (dk_at dksJ5_coder_0 14 rfl rfl)
abbrev cJ5_charAt : ByteArray := prog_30_method_56_code
def yJ5_charAt : MethodName := ⟨RJ5, "charAt", "(I)C"⟩
def dkwJ5_charAt_1 : List UInt8 := [172]
abbrev dktJ5_charAt_1 : List UInt8 := dkwJ5_charAt_1 ++ []
def dkwJ5_charAt_0 : List UInt8 := [42, 182, 1, 236, 153, 0, 12, 42, 180, 0, 9, 27, 184, 1, 239, 172, 42, 180, 0, 9, 27, 184, 1, 242]
abbrev dktJ5_charAt_0 : List UInt8 := dkwJ5_charAt_0 ++ dktJ5_charAt_1
theorem dksJ5_charAt_0 : cJ5_charAt.data.toList.drop 0 = dktJ5_charAt_0 := by decide +kernel
theorem dksJ5_charAt_1 : cJ5_charAt.data.toList.drop 24 = dktJ5_charAt_1 := dk_seg dksJ5_charAt_0 24 rfl rfl
theorem dJ5_charAt_0 : decode cJ5_charAt 0 = .ok (.aload_n 0, 1) := dk_42 (dk_at dksJ5_charAt_0 0 rfl rfl)
theorem dJ5_charAt_1 : decode cJ5_charAt 1 = .ok (.invokevirtual 492, 3) := dk_182 1 236 (dk_at dksJ5_charAt_0 1 rfl rfl)
theorem dJ5_charAt_4 : decode cJ5_charAt 4 = .ok (.ifCond .eq 12, 3) := dk_153 0 12 (dk_at dksJ5_charAt_0 4 rfl rfl)
theorem dJ5_charAt_7 : decode cJ5_charAt 7 = .ok (.aload_n 0, 1) := dk_42 (dk_at dksJ5_charAt_0 7 rfl rfl)
theorem dJ5_charAt_8 : decode cJ5_charAt 8 = .ok (.getfield 9, 3) := dk_180 0 9 (dk_at dksJ5_charAt_0 8 rfl rfl)
theorem dJ5_charAt_11 : decode cJ5_charAt 11 = .ok (.iload_n 1, 1) := dk_27 (dk_at dksJ5_charAt_0 11 rfl rfl)
theorem dJ5_charAt_12 : decode cJ5_charAt 12 = .ok (.invokestatic 495, 3) := dk_184 1 239 (dk_at dksJ5_charAt_0 12 rfl rfl)
theorem dJ5_charAt_15 : decode cJ5_charAt 15 = .ok (.ireturn, 1) := dk_172 (dk_at dksJ5_charAt_0 15 rfl rfl)
theorem dJ5_charAt_16 : decode cJ5_charAt 16 = .ok (.aload_n 0, 1) := dk_42 (dk_at dksJ5_charAt_0 16 rfl rfl)
theorem dJ5_charAt_17 : decode cJ5_charAt 17 = .ok (.getfield 9, 3) := dk_180 0 9 (dk_at dksJ5_charAt_0 17 rfl rfl)
theorem dJ5_charAt_20 : decode cJ5_charAt 20 = .ok (.iload_n 1, 1) := dk_27 (dk_at dksJ5_charAt_0 20 rfl rfl)
theorem dJ5_charAt_21 : decode cJ5_charAt 21 = .ok (.invokestatic 498, 3) := dk_184 1 242 (dk_at dksJ5_charAt_0 21 rfl rfl)
theorem dJ5_charAt_24 : decode cJ5_charAt 24 = .ok (.ireturn, 1) := dk_172 (dk_at dksJ5_charAt_1 0 rfl rfl)
abbrev cJ5_isLatin1 : ByteArray := prog_30_method_154_code
def yJ5_isLatin1 : MethodName := ⟨RJ5, "isLatin1", "()Z"⟩
def dkwJ5_isLatin1_0 : List UInt8 := [178, 0, 38, 153, 0, 14, 42, 180, 0, 15, 154, 0, 7, 4, 167, 0, 4, 3, 172]
abbrev dktJ5_isLatin1_0 : List UInt8 := dkwJ5_isLatin1_0 ++ []
theorem dksJ5_isLatin1_0 : cJ5_isLatin1.data.toList.drop 0 = dktJ5_isLatin1_0 := by decide +kernel
theorem dJ5_isLatin1_0 : decode cJ5_isLatin1 0 = .ok (.getstatic 38, 3) := dk_178 0 38 (dk_at dksJ5_isLatin1_0 0 rfl rfl)
theorem dJ5_isLatin1_3 : decode cJ5_isLatin1 3 = .ok (.ifCond .eq 14, 3) := dk_153 0 14 (dk_at dksJ5_isLatin1_0 3 rfl rfl)
theorem dJ5_isLatin1_6 : decode cJ5_isLatin1 6 = .ok (.aload_n 0, 1) := dk_42 (dk_at dksJ5_isLatin1_0 6 rfl rfl)
theorem dJ5_isLatin1_7 : decode cJ5_isLatin1 7 = .ok (.getfield 15, 3) := dk_180 0 15 (dk_at dksJ5_isLatin1_0 7 rfl rfl)
theorem dJ5_isLatin1_10 : decode cJ5_isLatin1 10 = .ok (.ifCond .ne 7, 3) := dk_154 0 7 (dk_at dksJ5_isLatin1_0 10 rfl rfl)
theorem dJ5_isLatin1_13 : decode cJ5_isLatin1 13 = .ok (.iconst 1, 1) := dk_4 (dk_at dksJ5_isLatin1_0 13 rfl rfl)
theorem dJ5_isLatin1_14 : decode cJ5_isLatin1 14 = .ok (.goto 4, 3) := dk_167 0 4 (dk_at dksJ5_isLatin1_0 14 rfl rfl)
theorem dJ5_isLatin1_17 : decode cJ5_isLatin1 17 = .ok (.iconst 0, 1) := dk_3 (dk_at dksJ5_isLatin1_0 17 rfl rfl)
theorem dJ5_isLatin1_18 : decode cJ5_isLatin1 18 = .ok (.ireturn, 1) := dk_172 (dk_at dksJ5_isLatin1_0 18 rfl rfl)
abbrev cJ5_checkIndex : ByteArray := prog_30_method_155_code
def yJ5_checkIndex : MethodName := ⟨RJ5, "checkIndex", "(II)V"⟩
def dkwJ5_checkIndex_0 : List UInt8 := [26, 27, 178, 4, 29, 184, 4, 35, 87, 177]
abbrev dktJ5_checkIndex_0 : List UInt8 := dkwJ5_checkIndex_0 ++ []
theorem dksJ5_checkIndex_0 : cJ5_checkIndex.data.toList.drop 0 = dktJ5_checkIndex_0 := by decide +kernel
theorem dJ5_checkIndex_0 : decode cJ5_checkIndex 0 = .ok (.iload_n 0, 1) := dk_26 (dk_at dksJ5_checkIndex_0 0 rfl rfl)
theorem dJ5_checkIndex_1 : decode cJ5_checkIndex 1 = .ok (.iload_n 1, 1) := dk_27 (dk_at dksJ5_checkIndex_0 1 rfl rfl)
theorem dJ5_checkIndex_2 : decode cJ5_checkIndex 2 = .ok (.getstatic 1053, 3) := dk_178 4 29 (dk_at dksJ5_checkIndex_0 2 rfl rfl)
theorem dJ5_checkIndex_5 : decode cJ5_checkIndex 5 = .ok (.invokestatic 1059, 3) := dk_184 4 35 (dk_at dksJ5_checkIndex_0 5 rfl rfl)
theorem dJ5_checkIndex_8 : decode cJ5_checkIndex 8 = .ok (.pop, 1) := dk_87 (dk_at dksJ5_checkIndex_0 8 rfl rfl)
theorem dJ5_checkIndex_9 : decode cJ5_checkIndex 9 = .ok (.return_, 1) := dk_177 (dk_at dksJ5_checkIndex_0 9 rfl rfl)
theorem q161 : (Jvm.Cond.initialized "java/lang/String") ∈ lw_all := lw_g (lw_at lw_m1 12 rfl) rfl
theorem q551 : (Jvm.Cond.instanceMethod ({ cls := "java/lang/String", name := "length", desc := "()I" } : Jvm.MethodName)) ∈ lw_all := lw_g (lw_at lw_m2 162 rfl) rfl
theorem q552 : (Jvm.Cond.selects "java/lang/String" ({ cls := "java/lang/String", name := "length", desc := "()I" } : Jvm.MethodName) ({ cls := "java/lang/String", name := "length", desc := "()I" } : Jvm.MethodName)) ∈ lw_all := lw_g (lw_at lw_m2 163 rfl) rfl
theorem q553 : (Jvm.Cond.code ({ cls := "java/lang/String", name := "length", desc := "()I" } : Jvm.MethodName) prog_30_method_54_code (1 : Nat) (Option.some Jvm.ClassFile.FieldType.int)) ∈ lw_all := lw_g (lw_at lw_m2 164 rfl) rfl
theorem q554 : (Jvm.Cond.methodLink "java/lang/String" (335 : Nat) ({ cls := "java/lang/String", name := "coder", desc := "()B" } : Jvm.MethodName)) ∈ lw_all := lw_g (lw_at lw_m2 165 rfl) rfl
theorem q555 : (Jvm.Cond.instanceMethod ({ cls := "java/lang/String", name := "coder", desc := "()B" } : Jvm.MethodName)) ∈ lw_all := lw_g (lw_at lw_m2 166 rfl) rfl
theorem q556 : (Jvm.Cond.selects "java/lang/String" ({ cls := "java/lang/String", name := "coder", desc := "()B" } : Jvm.MethodName) ({ cls := "java/lang/String", name := "coder", desc := "()B" } : Jvm.MethodName)) ∈ lw_all := lw_g (lw_at lw_m2 167 rfl) rfl
theorem q557 : (Jvm.Cond.code ({ cls := "java/lang/String", name := "coder", desc := "()B" } : Jvm.MethodName) prog_30_method_152_code (1 : Nat) (Option.some Jvm.ClassFile.FieldType.byte)) ∈ lw_all := lw_g (lw_at lw_m2 168 rfl) rfl
theorem q558 : (Jvm.Cond.fieldLink "java/lang/String" (38 : Nat) "java/lang/String" "COMPACT_STRINGS" "Z") ∈ lw_all := lw_g (lw_at lw_m2 169 rfl) rfl
theorem q559 : (Jvm.Cond.laysStatic "java/lang/String" "COMPACT_STRINGS" "Z") ∈ lw_tbl := lw_at lw_m2 170 rfl
theorem q561 : (Jvm.Cond.instanceMethod ({ cls := "java/lang/String", name := "charAt", desc := "(I)C" } : Jvm.MethodName)) ∈ lw_all := lw_g (lw_at lw_m2 172 rfl) rfl
theorem q562 : (Jvm.Cond.selects "java/lang/String" ({ cls := "java/lang/String", name := "charAt", desc := "(I)C" } : Jvm.MethodName) ({ cls := "java/lang/String", name := "charAt", desc := "(I)C" } : Jvm.MethodName)) ∈ lw_all := lw_g (lw_at lw_m2 173 rfl) rfl
theorem q563 : (Jvm.Cond.code ({ cls := "java/lang/String", name := "charAt", desc := "(I)C" } : Jvm.MethodName) prog_30_method_56_code (2 : Nat) (Option.some Jvm.ClassFile.FieldType.char)) ∈ lw_all := lw_g (lw_at lw_m2 174 rfl) rfl
theorem q564 : (Jvm.Cond.methodLink "java/lang/String" (492 : Nat) ({ cls := "java/lang/String", name := "isLatin1", desc := "()Z" } : Jvm.MethodName)) ∈ lw_all := lw_g (lw_at lw_m2 175 rfl) rfl
theorem q565 : (Jvm.Cond.instanceMethod ({ cls := "java/lang/String", name := "isLatin1", desc := "()Z" } : Jvm.MethodName)) ∈ lw_all := lw_g (lw_at lw_m2 176 rfl) rfl
theorem q566 : (Jvm.Cond.selects "java/lang/String" ({ cls := "java/lang/String", name := "isLatin1", desc := "()Z" } : Jvm.MethodName) ({ cls := "java/lang/String", name := "isLatin1", desc := "()Z" } : Jvm.MethodName)) ∈ lw_all := lw_g (lw_at lw_m2 177 rfl) rfl
theorem q567 : (Jvm.Cond.code ({ cls := "java/lang/String", name := "isLatin1", desc := "()Z" } : Jvm.MethodName) prog_30_method_154_code (1 : Nat) (Option.some Jvm.ClassFile.FieldType.boolean)) ∈ lw_all := lw_g (lw_at lw_m2 178 rfl) rfl
theorem q568 : (Jvm.Cond.methodLink "java/lang/String" (495 : Nat) ({ cls := "java/lang/StringLatin1", name := "charAt", desc := "([BI)C" } : Jvm.MethodName)) ∈ lw_all := lw_g (lw_at lw_m2 179 rfl) rfl
theorem q572 : (Jvm.Cond.static ({ cls := "java/lang/String", name := "checkIndex", desc := "(II)V" } : Jvm.MethodName)) ∈ lw_all := lw_g (lw_at lw_m2 183 rfl) rfl
theorem q573 : (Jvm.Cond.code ({ cls := "java/lang/String", name := "checkIndex", desc := "(II)V" } : Jvm.MethodName) prog_30_method_155_code (2 : Nat) (Option.none : Option Jvm.ClassFile.FieldType)) ∈ lw_all := lw_g (lw_at lw_m2 184 rfl) rfl
theorem q574 : (Jvm.Cond.fieldLink "java/lang/String" (1053 : Nat) "jdk/internal/util/Preconditions" "SIOOBE_FORMATTER" "Ljava/util/function/BiFunction;") ∈ lw_all := lw_g (lw_at lw_m2 185 rfl) rfl
theorem q576 : (Jvm.Cond.methodLink "java/lang/String" (1059 : Nat) ({ cls := "jdk/internal/util/Preconditions", name := "checkIndex", desc := "(IILjava/util/function/BiFunction;)I" } : Jvm.MethodName)) ∈ lw_all := lw_g (lw_at lw_m2 187 rfl) rfl
theorem q579 : (Jvm.Cond.methodLink "java/lang/String" (498 : Nat) ({ cls := "java/lang/StringUTF16", name := "charAt", desc := "([BI)C" } : Jvm.MethodName)) ∈ lw_all := lw_g (lw_at lw_m2 190 rfl) rfl
theorem q2005 : (Jvm.Cond.castable "java/lang/String" "java/lang/Object") ∈ lw_tbl := lw_at lw_m8 176 rfl
theorem q2034 : (Jvm.Cond.fieldLink "java/lang/String" (9 : Nat) "java/lang/String" "value" "[B") ∈ lw_all := lw_g (lw_at lw_m8 205 rfl) rfl
theorem q2035 : (Jvm.Cond.fieldLink "java/lang/String" (15 : Nat) "java/lang/String" "coder" "B") ∈ lw_all := lw_g (lw_at lw_m8 206 rfl) rfl

/-! java/lang/StringLatin1 -/
set_option maxRecDepth 100000
def RJ6 : String := "java/lang/StringLatin1"
abbrev cJ6_charAt : ByteArray := prog_31_method_2_code
def yJ6_charAt : MethodName := ⟨RJ6, "charAt", "([BI)C"⟩
def dkwJ6_charAt_0 : List UInt8 := [27, 42, 190, 184, 0, 9, 42, 27, 51, 17, 0, 255, 126, 146, 172]
abbrev dktJ6_charAt_0 : List UInt8 := dkwJ6_charAt_0 ++ []
theorem dksJ6_charAt_0 : cJ6_charAt.data.toList.drop 0 = dktJ6_charAt_0 := by decide +kernel
theorem dJ6_charAt_0 : decode cJ6_charAt 0 = .ok (.iload_n 1, 1) := dk_27 (dk_at dksJ6_charAt_0 0 rfl rfl)
theorem dJ6_charAt_1 : decode cJ6_charAt 1 = .ok (.aload_n 0, 1) := dk_42 (dk_at dksJ6_charAt_0 1 rfl rfl)
theorem dJ6_charAt_2 : decode cJ6_charAt 2 = .ok (.arraylength, 1) := dk_190 (dk_at dksJ6_charAt_0 2 rfl rfl)
theorem dJ6_charAt_3 : decode cJ6_charAt 3 = .ok (.invokestatic 9, 3) := dk_184 0 9 (dk_at dksJ6_charAt_0 3 rfl rfl)
theorem dJ6_charAt_6 : decode cJ6_charAt 6 = .ok (.aload_n 0, 1) := dk_42 (dk_at dksJ6_charAt_0 6 rfl rfl)
theorem dJ6_charAt_7 : decode cJ6_charAt 7 = .ok (.iload_n 1, 1) := dk_27 (dk_at dksJ6_charAt_0 7 rfl rfl)
theorem dJ6_charAt_8 : decode cJ6_charAt 8 = .ok (.baload, 1) := dk_51 (dk_at dksJ6_charAt_0 8 rfl rfl)
theorem dJ6_charAt_9 : decode cJ6_charAt 9 = .ok (.sipush 255, 3) := dk_17 0 255 (dk_at dksJ6_charAt_0 9 rfl rfl)
theorem dJ6_charAt_12 : decode cJ6_charAt 12 = .ok (.iand, 1) := dk_126 (dk_at dksJ6_charAt_0 12 rfl rfl)
theorem dJ6_charAt_13 : decode cJ6_charAt 13 = .ok (.i2c, 1) := dk_146 (dk_at dksJ6_charAt_0 13 rfl rfl)
theorem dJ6_charAt_14 : decode cJ6_charAt 14 = .ok (.ireturn, 1) := dk_172 (dk_at dksJ6_charAt_0 14 rfl rfl)
theorem q162 : (Jvm.Cond.initialized "java/lang/StringLatin1") ∈ lw_all := lw_g (lw_at lw_m1 13 rfl) rfl
theorem q569 : (Jvm.Cond.static ({ cls := "java/lang/StringLatin1", name := "charAt", desc := "([BI)C" } : Jvm.MethodName)) ∈ lw_all := lw_g (lw_at lw_m2 180 rfl) rfl
theorem q570 : (Jvm.Cond.code ({ cls := "java/lang/StringLatin1", name := "charAt", desc := "([BI)C" } : Jvm.MethodName) prog_31_method_2_code (2 : Nat) (Option.some Jvm.ClassFile.FieldType.char)) ∈ lw_all := lw_g (lw_at lw_m2 181 rfl) rfl
theorem q571 : (Jvm.Cond.methodLink "java/lang/StringLatin1" (9 : Nat) ({ cls := "java/lang/String", name := "checkIndex", desc := "(II)V" } : Jvm.MethodName)) ∈ lw_all := lw_g (lw_at lw_m2 182 rfl) rfl

/-! jdk/internal/util/Preconditions -/
set_option maxRecDepth 100000
def RJ7 : String := "jdk/internal/util/Preconditions"
abbrev cJ7_checkIndex : ByteArray := prog_47_method_11_code
def yJ7_checkIndex : MethodName := ⟨RJ7, "checkIndex", "(IILjava/util/function/BiFunction;)I"⟩
def dkwJ7_checkIndex_0 : List UInt8 := [26, 155, 0, 8, 26, 27, 161, 0, 10, 44, 26, 27, 184, 0, 95, 191, 26, 172]
abbrev dktJ7_checkIndex_0 : List UInt8 := dkwJ7_checkIndex_0 ++ []
theorem dksJ7_checkIndex_0 : cJ7_checkIndex.data.toList.drop 0 = dktJ7_checkIndex_0 := by decide +kernel
theorem dJ7_checkIndex_0 : decode cJ7_checkIndex 0 = .ok (.iload_n 0, 1) := dk_26 (dk_at dksJ7_checkIndex_0 0 rfl rfl)
theorem dJ7_checkIndex_1 : decode cJ7_checkIndex 1 = .ok (.ifCond .lt 8, 3) := dk_155 0 8 (dk_at dksJ7_checkIndex_0 1 rfl rfl)
theorem dJ7_checkIndex_4 : decode cJ7_checkIndex 4 = .ok (.iload_n 0, 1) := dk_26 (dk_at dksJ7_checkIndex_0 4 rfl rfl)
theorem dJ7_checkIndex_5 : decode cJ7_checkIndex 5 = .ok (.iload_n 1, 1) := dk_27 (dk_at dksJ7_checkIndex_0 5 rfl rfl)
theorem dJ7_checkIndex_6 : decode cJ7_checkIndex 6 = .ok (.if_icmp .lt 10, 3) := dk_161 0 10 (dk_at dksJ7_checkIndex_0 6 rfl rfl)
theorem dJ7_checkIndex_9 : decode cJ7_checkIndex 9 = .ok (.aload_n 2, 1) := dk_44 (dk_at dksJ7_checkIndex_0 9 rfl rfl)
theorem dJ7_checkIndex_10 : decode cJ7_checkIndex 10 = .ok (.iload_n 0, 1) := dk_26 (dk_at dksJ7_checkIndex_0 10 rfl rfl)
theorem dJ7_checkIndex_11 : decode cJ7_checkIndex 11 = .ok (.iload_n 1, 1) := dk_27 (dk_at dksJ7_checkIndex_0 11 rfl rfl)
theorem dJ7_checkIndex_12 : decode cJ7_checkIndex 12 = .ok (.invokestatic 95, 3) := dk_184 0 95 (dk_at dksJ7_checkIndex_0 12 rfl rfl)
theorem dJ7_checkIndex_15 : decode cJ7_checkIndex 15 = .ok (.athrow, 1) := dk_191 (dk_at dksJ7_checkIndex_0 15 rfl rfl)
theorem dJ7_checkIndex_16 : decode cJ7_checkIndex 16 = .ok (.iload_n 0, 1) := dk_26 (dk_at dksJ7_checkIndex_0 16 rfl rfl)
theorem dJ7_checkIndex_17 : decode cJ7_checkIndex 17 = .ok (.ireturn, 1) := dk_172 (dk_at dksJ7_checkIndex_0 17 rfl rfl)
theorem q163 : (Jvm.Cond.initialized "jdk/internal/util/Preconditions") ∈ lw_all := lw_g (lw_at lw_m1 14 rfl) rfl
theorem q575 : (Jvm.Cond.laysStatic "jdk/internal/util/Preconditions" "SIOOBE_FORMATTER" "Ljava/util/function/BiFunction;") ∈ lw_tbl := lw_at lw_m2 186 rfl
theorem q577 : (Jvm.Cond.static ({ cls := "jdk/internal/util/Preconditions", name := "checkIndex", desc := "(IILjava/util/function/BiFunction;)I" } : Jvm.MethodName)) ∈ lw_all := lw_g (lw_at lw_m2 188 rfl) rfl
theorem q578 : (Jvm.Cond.code ({ cls := "jdk/internal/util/Preconditions", name := "checkIndex", desc := "(IILjava/util/function/BiFunction;)I" } : Jvm.MethodName) prog_47_method_11_code (3 : Nat) (Option.some Jvm.ClassFile.FieldType.int)) ∈ lw_all := lw_g (lw_at lw_m2 189 rfl) rfl

/-! java/lang/StringUTF16 -/
set_option maxRecDepth 100000
def RJ8 : String := "java/lang/StringUTF16"
abbrev cJ8_charAt : ByteArray := prog_32_method_83_code
def yJ8_charAt : MethodName := ⟨RJ8, "charAt", "([BI)C"⟩
def dkwJ8_charAt_0 : List UInt8 := [27, 42, 184, 0, 67, 42, 27, 184, 0, 71, 172]
abbrev dktJ8_charAt_0 : List UInt8 := dkwJ8_charAt_0 ++ []
theorem dksJ8_charAt_0 : cJ8_charAt.data.toList.drop 0 = dktJ8_charAt_0 := by decide +kernel
theorem dJ8_charAt_0 : decode cJ8_charAt 0 = .ok (.iload_n 1, 1) := dk_27 (dk_at dksJ8_charAt_0 0 rfl rfl)
theorem dJ8_charAt_1 : decode cJ8_charAt 1 = .ok (.aload_n 0, 1) := dk_42 (dk_at dksJ8_charAt_0 1 rfl rfl)
theorem dJ8_charAt_2 : decode cJ8_charAt 2 = .ok (.invokestatic 67, 3) := dk_184 0 67 (dk_at dksJ8_charAt_0 2 rfl rfl)
theorem dJ8_charAt_5 : decode cJ8_charAt 5 = .ok (.aload_n 0, 1) := dk_42 (dk_at dksJ8_charAt_0 5 rfl rfl)
theorem dJ8_charAt_6 : decode cJ8_charAt 6 = .ok (.iload_n 1, 1) := dk_27 (dk_at dksJ8_charAt_0 6 rfl rfl)
theorem dJ8_charAt_7 : decode cJ8_charAt 7 = .ok (.invokestatic 71, 3) := dk_184 0 71 (dk_at dksJ8_charAt_0 7 rfl rfl)
theorem dJ8_charAt_10 : decode cJ8_charAt 10 = .ok (.ireturn, 1) := dk_172 (dk_at dksJ8_charAt_0 10 rfl rfl)
abbrev cJ8_checkIndex : ByteArray := prog_32_method_91_code
def yJ8_checkIndex : MethodName := ⟨RJ8, "checkIndex", "(I[B)V"⟩
def dkwJ8_checkIndex_0 : List UInt8 := [26, 43, 184, 0, 48, 184, 1, 158, 177]
abbrev dktJ8_checkIndex_0 : List UInt8 := dkwJ8_checkIndex_0 ++ []
theorem dksJ8_checkIndex_0 : cJ8_checkIndex.data.toList.drop 0 = dktJ8_checkIndex_0 := by decide +kernel
theorem dJ8_checkIndex_0 : decode cJ8_checkIndex 0 = .ok (.iload_n 0, 1) := dk_26 (dk_at dksJ8_checkIndex_0 0 rfl rfl)
theorem dJ8_checkIndex_1 : decode cJ8_checkIndex 1 = .ok (.aload_n 1, 1) := dk_43 (dk_at dksJ8_checkIndex_0 1 rfl rfl)
theorem dJ8_checkIndex_2 : decode cJ8_checkIndex 2 = .ok (.invokestatic 48, 3) := dk_184 0 48 (dk_at dksJ8_checkIndex_0 2 rfl rfl)
theorem dJ8_checkIndex_5 : decode cJ8_checkIndex 5 = .ok (.invokestatic 414, 3) := dk_184 1 158 (dk_at dksJ8_checkIndex_0 5 rfl rfl)
theorem dJ8_checkIndex_8 : decode cJ8_checkIndex 8 = .ok (.return_, 1) := dk_177 (dk_at dksJ8_checkIndex_0 8 rfl rfl)
abbrev cJ8_length : ByteArray := prog_32_method_6_code
def yJ8_length : MethodName := ⟨RJ8, "length", "([B)I"⟩
def dkwJ8_length_0 : List UInt8 := [42, 190, 4, 122, 172]
abbrev dktJ8_length_0 : List UInt8 := dkwJ8_length_0 ++ []
theorem dksJ8_length_0 : cJ8_length.data.toList.drop 0 = dktJ8_length_0 := by decide +kernel
theorem dJ8_length_0 : decode cJ8_length 0 = .ok (.aload_n 0, 1) := dk_42 (dk_at dksJ8_length_0 0 rfl rfl)
theorem dJ8_length_1 : decode cJ8_length 1 = .ok (.arraylength, 1) := dk_190 (dk_at dksJ8_length_0 1 rfl rfl)
theorem dJ8_length_2 : decode cJ8_length 2 = .ok (.iconst 1, 1) := dk_4 (dk_at dksJ8_length_0 2 rfl rfl)
theorem dJ8_length_3 : decode cJ8_length 3 = .ok (.ishr, 1) := dk_122 (dk_at dksJ8_length_0 3 rfl rfl)
theorem dJ8_length_4 : decode cJ8_length 4 = .ok (.ireturn, 1) := dk_172 (dk_at dksJ8_length_0 4 rfl rfl)
abbrev cJ8_getChar : ByteArray := prog_32_method_5_code
def yJ8_getChar : MethodName := ⟨RJ8, "getChar", "([BI)C"⟩
def dkwJ8_getChar_2 : List UInt8 := [51, 17, 0, 255, 126, 178, 0, 63, 120, 128, 146, 172]
abbrev dktJ8_getChar_2 : List UInt8 := dkwJ8_getChar_2 ++ []
def dkwJ8_getChar_1 : List UInt8 := [183, 0, 56, 191, 27, 4, 120, 60, 42, 27, 132, 1, 1, 51, 17, 0, 255, 126, 178, 0, 59, 120, 42, 27]
abbrev dktJ8_getChar_1 : List UInt8 := dkwJ8_getChar_1 ++ dktJ8_getChar_2
def dkwJ8_getChar_0 : List UInt8 := [178, 0, 44, 154, 0, 25, 27, 155, 0, 11, 27, 42, 184, 0, 48, 161, 0, 13, 187, 0, 52, 89, 18, 54]
abbrev dktJ8_getChar_0 : List UInt8 := dkwJ8_getChar_0 ++ dktJ8_getChar_1
theorem dksJ8_getChar_0 : cJ8_getChar.data.toList.drop 0 = dktJ8_getChar_0 := by decide +kernel
theorem dksJ8_getChar_1 : cJ8_getChar.data.toList.drop 24 = dktJ8_getChar_1 := dk_seg dksJ8_getChar_0 24 rfl rfl
theorem dksJ8_getChar_2 : cJ8_getChar.data.toList.drop 48 = dktJ8_getChar_2 := dk_seg dksJ8_getChar_1 24 rfl rfl
theorem dJ8_getChar_0 : decode cJ8_getChar 0 = .ok (.getstatic 44, 3) := dk_178 0 44 (dk_at dksJ8_getChar_0 0 rfl rfl)
theorem dJ8_getChar_3 : decode cJ8_getChar 3 = .ok (.ifCond .ne 25, 3) := dk_154 0 25 (dk_at dksJ8_getChar_0 3 rfl rfl)
theorem dJ8_getChar_6 : decode cJ8_getChar 6 = .ok (.iload_n 1, 1) := dk_27 (dk_at dksJ8_getChar_0 6 rfl rfl)
theorem dJ8_getChar_7 : decode cJ8_getChar 7 = .ok (.ifCond .lt 11, 3) := dk_155 0 11 (dk_at dksJ8_getChar_0 7 rfl rfl)
theorem dJ8_getChar_10 : decode cJ8_getChar 10 = .ok (.iload_n 1, 1) := dk_27 (dk_at dksJ8_getChar_0 10 rfl rfl)
theorem dJ8_getChar_11 : decode cJ8_getChar 11 = .ok (.aload_n 0, 1) := dk_42 (dk_at dksJ8_getChar_0 11 rfl rfl)
theorem dJ8_getChar_12 : decode cJ8_getChar 12 = .ok (.invokestatic 48, 3) := dk_184 0 48 (dk_at dksJ8_getChar_0 12 rfl rfl)
theorem dJ8_getChar_15 : decode cJ8_getChar 15 = .ok (.if_icmp .lt 13, 3) := dk_161 0 13 (dk_at dksJ8_getChar_0 15 rfl rfl)
theorem dJ8_getChar_18 : decode cJ8_getChar 18 = .ok (.new 52, 3) := dk_187 0 52 (dk_at dksJ8_getChar_0 18 rfl rfl)
theorem dJ8_getChar_21 : decode cJ8_getChar 21 = .ok (.dup, 1) := dk_89 (dk_at dksJ8_getChar_0 21 rfl rfl)
theorem dJ8_getChar_22 : decode cJ8_getChar 22 = .ok (.ldc 54, 2) := dk_18 54 (dk_at dksJ8_getChar_0 22 rfl rfl)
theorem dJ8_getChar_24 : decode cJ8_getChar 24 = .ok (.invokespecial 56, 3) := dk_183 0 56 (dk_at dksJ8_getChar_1 0 rfl rfl)
theorem dJ8_getChar_27 : decode cJ8_getChar 27 = .ok (.athrow, 1) := dk_191 (dk_at dksJ8_getChar_1 3 rfl rfl)
theorem dJ8_getChar_28 : decode cJ8_getChar 28 = .ok (.iload_n 1, 1) := dk_27 (dk_at dksJ8_getChar_1 4 rfl rfl)
theorem dJ8_getChar_29 : decode cJ8_getChar 29 = .ok (.iconst 1, 1) := dk_4 (dk_at dksJ8_getChar_1 5 rfl rfl)
theorem dJ8_getChar_30 : decode cJ8_getChar 30 = .ok (.ishl, 1) := dk_120 (dk_at dksJ8_getChar_1 6 rfl rfl)
theorem dJ8_getChar_31 : decode cJ8_getChar 31 = .ok (.istore_n 1, 1) := dk_60 (dk_at dksJ8_getChar_1 7 rfl rfl)
theorem dJ8_getChar_32 : decode cJ8_getChar 32 = .ok (.aload_n 0, 1) := dk_42 (dk_at dksJ8_getChar_1 8 rfl rfl)
theorem dJ8_getChar_33 : decode cJ8_getChar 33 = .ok (.iload_n 1, 1) := dk_27 (dk_at dksJ8_getChar_1 9 rfl rfl)
theorem dJ8_getChar_34 : decode cJ8_getChar 34 = .ok (.iinc 1 1, 3) := dk_132 1 1 (dk_at dksJ8_getChar_1 10 rfl rfl)
theorem dJ8_getChar_37 : decode cJ8_getChar 37 = .ok (.baload, 1) := dk_51 (dk_at dksJ8_getChar_1 13 rfl rfl)
theorem dJ8_getChar_38 : decode cJ8_getChar 38 = .ok (.sipush 255, 3) := dk_17 0 255 (dk_at dksJ8_getChar_1 14 rfl rfl)
theorem dJ8_getChar_41 : decode cJ8_getChar 41 = .ok (.iand, 1) := dk_126 (dk_at dksJ8_getChar_1 17 rfl rfl)
theorem dJ8_getChar_42 : decode cJ8_getChar 42 = .ok (.getstatic 59, 3) := dk_178 0 59 (dk_at dksJ8_getChar_1 18 rfl rfl)
theorem dJ8_getChar_45 : decode cJ8_getChar 45 = .ok (.ishl, 1) := dk_120 (dk_at dksJ8_getChar_1 21 rfl rfl)
theorem dJ8_getChar_46 : decode cJ8_getChar 46 = .ok (.aload_n 0, 1) := dk_42 (dk_at dksJ8_getChar_1 22 rfl rfl)
theorem dJ8_getChar_47 : decode cJ8_getChar 47 = .ok (.iload_n 1, 1) := dk_27 (dk_at dksJ8_getChar_1 23 rfl rfl)
theorem dJ8_getChar_48 : decode cJ8_getChar 48 = .ok (.baload, 1) := dk_51 (dk_at dksJ8_getChar_2 0 rfl rfl)
theorem dJ8_getChar_49 : decode cJ8_getChar 49 = .ok (.sipush 255, 3) := dk_17 0 255 (dk_at dksJ8_getChar_2 1 rfl rfl)
theorem dJ8_getChar_52 : decode cJ8_getChar 52 = .ok (.iand, 1) := dk_126 (dk_at dksJ8_getChar_2 4 rfl rfl)
theorem dJ8_getChar_53 : decode cJ8_getChar 53 = .ok (.getstatic 63, 3) := dk_178 0 63 (dk_at dksJ8_getChar_2 5 rfl rfl)
theorem dJ8_getChar_56 : decode cJ8_getChar 56 = .ok (.ishl, 1) := dk_120 (dk_at dksJ8_getChar_2 8 rfl rfl)
theorem dJ8_getChar_57 : decode cJ8_getChar 57 = .ok (.ior, 1) := dk_128 (dk_at dksJ8_getChar_2 9 rfl rfl)
theorem dJ8_getChar_58 : decode cJ8_getChar 58 = .ok (.i2c, 1) := dk_146 (dk_at dksJ8_getChar_2 10 rfl rfl)
theorem dJ8_getChar_59 : decode cJ8_getChar 59 = .ok (.ireturn, 1) := dk_172 (dk_at dksJ8_getChar_2 11 rfl rfl)
theorem q164 : (Jvm.Cond.initialized "java/lang/StringUTF16") ∈ lw_all := lw_g (lw_at lw_m1 15 rfl) rfl
theorem q580 : (Jvm.Cond.static ({ cls := "java/lang/StringUTF16", name := "charAt", desc := "([BI)C" } : Jvm.MethodName)) ∈ lw_all := lw_g (lw_at lw_m2 191 rfl) rfl
theorem q581 : (Jvm.Cond.code ({ cls := "java/lang/StringUTF16", name := "charAt", desc := "([BI)C" } : Jvm.MethodName) prog_32_method_83_code (2 : Nat) (Option.some Jvm.ClassFile.FieldType.char)) ∈ lw_all := lw_g (lw_at lw_m2 192 rfl) rfl
theorem q582 : (Jvm.Cond.methodLink "java/lang/StringUTF16" (67 : Nat) ({ cls := "java/lang/StringUTF16", name := "checkIndex", desc := "(I[B)V" } : Jvm.MethodName)) ∈ lw_all := lw_g (lw_at lw_m2 193 rfl) rfl
theorem q583 : (Jvm.Cond.static ({ cls := "java/lang/StringUTF16", name := "checkIndex", desc := "(I[B)V" } : Jvm.MethodName)) ∈ lw_all := lw_g (lw_at lw_m2 194 rfl) rfl
theorem q584 : (Jvm.Cond.code ({ cls := "java/lang/StringUTF16", name := "checkIndex", desc := "(I[B)V" } : Jvm.MethodName) prog_32_method_91_code (2 : Nat) (Option.none : Option Jvm.ClassFile.FieldType)) ∈ lw_all := lw_g (lw_at lw_m2 195 rfl) rfl
theorem q585 : (Jvm.Cond.methodLink "java/lang/StringUTF16" (48 : Nat) ({ cls := "java/lang/StringUTF16", name := "length", desc := "([B)I" } : Jvm.MethodName)) ∈ lw_all := lw_g (lw_at lw_m2 196 rfl) rfl
theorem q586 : (Jvm.Cond.static ({ cls := "java/lang/StringUTF16", name := "length", desc := "([B)I" } : Jvm.MethodName)) ∈ lw_all := lw_g (lw_at lw_m2 197 rfl) rfl
theorem q587 : (Jvm.Cond.code ({ cls := "java/lang/StringUTF16", name := "length", desc := "([B)I" } : Jvm.MethodName) prog_32_method_6_code (1 : Nat) (Option.some Jvm.ClassFile.FieldType.int)) ∈ lw_all := lw_g (lw_at lw_m2 198 rfl) rfl
theorem q588 : (Jvm.Cond.methodLink "java/lang/StringUTF16" (414 : Nat) ({ cls := "java/lang/String", name := "checkIndex", desc := "(II)V" } : Jvm.MethodName)) ∈ lw_all := lw_g (lw_at lw_m2 199 rfl) rfl
theorem q589 : (Jvm.Cond.methodLink "java/lang/StringUTF16" (71 : Nat) ({ cls := "java/lang/StringUTF16", name := "getChar", desc := "([BI)C" } : Jvm.MethodName)) ∈ lw_all := lw_g (lw_at lw_m2 200 rfl) rfl
theorem q590 : (Jvm.Cond.static ({ cls := "java/lang/StringUTF16", name := "getChar", desc := "([BI)C" } : Jvm.MethodName)) ∈ lw_all := lw_g (lw_at lw_m2 201 rfl) rfl
theorem q591 : (Jvm.Cond.code ({ cls := "java/lang/StringUTF16", name := "getChar", desc := "([BI)C" } : Jvm.MethodName) prog_32_method_5_code (2 : Nat) (Option.some Jvm.ClassFile.FieldType.char)) ∈ lw_all := lw_g (lw_at lw_m2 202 rfl) rfl
theorem q592 : (Jvm.Cond.fieldLink "java/lang/StringUTF16" (44 : Nat) "java/lang/StringUTF16" "$assertionsDisabled" "Z") ∈ lw_all := lw_g (lw_at lw_m2 203 rfl) rfl
theorem q593 : (Jvm.Cond.laysStatic "java/lang/StringUTF16" "$assertionsDisabled" "Z") ∈ lw_tbl := lw_at lw_m2 204 rfl
theorem q594 : (Jvm.Cond.fieldLink "java/lang/StringUTF16" (59 : Nat) "java/lang/StringUTF16" "HI_BYTE_SHIFT" "I") ∈ lw_all := lw_g (lw_at lw_m2 205 rfl) rfl
theorem q595 : (Jvm.Cond.laysStatic "java/lang/StringUTF16" "HI_BYTE_SHIFT" "I") ∈ lw_tbl := lw_at lw_m2 206 rfl
theorem q596 : (Jvm.Cond.fieldLink "java/lang/StringUTF16" (63 : Nat) "java/lang/StringUTF16" "LO_BYTE_SHIFT" "I") ∈ lw_all := lw_g (lw_at lw_m2 207 rfl) rfl
theorem q597 : (Jvm.Cond.laysStatic "java/lang/StringUTF16" "LO_BYTE_SHIFT" "I") ∈ lw_tbl := lw_at lw_m2 208 rfl

/-! java/util/Objects -/
set_option maxRecDepth 100000
def RJ9 : String := "java/util/Objects"
abbrev cJ9_checkIndex : ByteArray := prog_43_method_17_code
def yJ9_checkIndex : MethodName := ⟨RJ9, "checkIndex", "(II)I"⟩
def dkwJ9_checkIndex_0 : List UInt8 := [26, 27, 1, 184, 0, 105, 172]
abbrev dktJ9_checkIndex_0 : List UInt8 := dkwJ9_checkIndex_0 ++ []
theorem dksJ9_checkIndex_0 : cJ9_checkIndex.data.toList.drop 0 = dktJ9_checkIndex_0 := by decide +kernel
theorem dJ9_checkIndex_0 : decode cJ9_checkIndex 0 = .ok (.iload_n 0, 1) := dk_26 (dk_at dksJ9_checkIndex_0 0 rfl rfl)
theorem dJ9_checkIndex_1 : decode cJ9_checkIndex 1 = .ok (.iload_n 1, 1) := dk_27 (dk_at dksJ9_checkIndex_0 1 rfl rfl)
theorem dJ9_checkIndex_2 : decode cJ9_checkIndex 2 = .ok (.aconst_null, 1) := dk_1 (dk_at dksJ9_checkIndex_0 2 rfl rfl)
theorem dJ9_checkIndex_3 : decode cJ9_checkIndex 3 = .ok (.invokestatic 105, 3) := dk_184 0 105 (dk_at dksJ9_checkIndex_0 3 rfl rfl)
theorem dJ9_checkIndex_6 : decode cJ9_checkIndex 6 = .ok (.ireturn, 1) := dk_172 (dk_at dksJ9_checkIndex_0 6 rfl rfl)
theorem q165 : (Jvm.Cond.initialized "java/util/Objects") ∈ lw_all := lw_g (lw_at lw_m1 16 rfl) rfl
theorem q632 : (Jvm.Cond.static ({ cls := "java/util/Objects", name := "checkIndex", desc := "(II)I" } : Jvm.MethodName)) ∈ lw_all := lw_g (lw_at lw_m3 3 rfl) rfl
theorem q633 : (Jvm.Cond.code ({ cls := "java/util/Objects", name := "checkIndex", desc := "(II)I" } : Jvm.MethodName) prog_43_method_17_code (2 : Nat) (Option.some Jvm.ClassFile.FieldType.int)) ∈ lw_all := lw_g (lw_at lw_m3 4 rfl) rfl
theorem q634 : (Jvm.Cond.methodLink "java/util/Objects" (105 : Nat) ({ cls := "jdk/internal/util/Preconditions", name := "checkIndex", desc := "(IILjava/util/function/BiFunction;)I" } : Jvm.MethodName)) ∈ lw_all := lw_g (lw_at lw_m3 5 rfl) rfl

/-! OutwardDoors$Castle -/
set_option maxRecDepth 100000
def RX1 : String := "OutwardDoors$Castle"
def TX1 : u_T := fun k => match k with
  | 0 => ("OutwardDoors$Castle", "people", "Ljava/util/ArrayList;", true)
  | 1 => ("OutwardDoors$Castle", "doors", "Ljava/util/ArrayList;", true)
  | 2 => ("OutwardDoors$Castle", "far", "[I", true)
  | 3 => ("OutwardDoors$Castle", "rooms", "I", false)
  | 4 => ("OutwardDoors$Castle", "nightFrom", "I", false)
  | _ => ("OutwardDoors$Castle", "nightTo", "I", false)
def tyX1 : Nat → FieldType := fun k => match k with
  | 0 => .object "java/util/ArrayList"
  | 1 => .object "java/util/ArrayList"
  | 2 => .array .int
  | 3 => .int
  | 4 => .int
  | _ => .int
abbrev wsX10 : List Cond := u_ws RX1 TX1 6
theorem nmX1 : ∀ a, a < 6 → ∀ b, b < 6 → a ≠ b → (TX1 a).2.1 ≠ (TX1 b).2.1 := by decide +kernel
theorem tyX1_ok : ∀ k, k < 6 → parseFieldDescriptor (TX1 k).2.2.1 = some (tyX1 k) := by decide +kernel
abbrev cX1_init : ByteArray := prog_4_method_1_code
def yX1_init : MethodName := ⟨RX1, "<init>", "()V"⟩
def dkwX1_init_2 : List UInt8 := [3, 60, 27, 16, 8, 162, 0, 16, 42, 180, 0, 23, 27, 27, 79, 132, 1, 1, 167, 255, 240, 177]
abbrev dktX1_init_2 : List UInt8 := dkwX1_init_2 ++ []
def dkwX1_init_1 : List UInt8 := [183, 0, 11, 181, 0, 20, 42, 16, 8, 188, 10, 181, 0, 23, 42, 2, 181, 0, 27, 42, 2, 181, 0, 31]
abbrev dktX1_init_1 : List UInt8 := dkwX1_init_1 ++ dktX1_init_2
def dkwX1_init_0 : List UInt8 := [42, 183, 0, 3, 42, 187, 0, 9, 89, 5, 183, 0, 11, 181, 0, 14, 42, 187, 0, 9, 89, 5]
abbrev dktX1_init_0 : List UInt8 := dkwX1_init_0 ++ dktX1_init_1
theorem dksX1_init_0 : cX1_init.data.toList.drop 0 = dktX1_init_0 := by decide +kernel
theorem dksX1_init_1 : cX1_init.data.toList.drop 22 = dktX1_init_1 := dk_seg dksX1_init_0 22 rfl rfl
theorem dksX1_init_2 : cX1_init.data.toList.drop 46 = dktX1_init_2 := dk_seg dksX1_init_1 24 rfl rfl
theorem dX1_init_0 : decode cX1_init 0 = .ok (.aload_n 0, 1) := dk_42 (dk_at dksX1_init_0 0 rfl rfl)
theorem dX1_init_1 : decode cX1_init 1 = .ok (.invokespecial 3, 3) := dk_183 0 3 (dk_at dksX1_init_0 1 rfl rfl)
theorem dX1_init_4 : decode cX1_init 4 = .ok (.aload_n 0, 1) := dk_42 (dk_at dksX1_init_0 4 rfl rfl)
theorem dX1_init_5 : decode cX1_init 5 = .ok (.new 9, 3) := dk_187 0 9 (dk_at dksX1_init_0 5 rfl rfl)
theorem dX1_init_8 : decode cX1_init 8 = .ok (.dup, 1) := dk_89 (dk_at dksX1_init_0 8 rfl rfl)
theorem dX1_init_9 : decode cX1_init 9 = .ok (.iconst 2, 1) := dk_5 (dk_at dksX1_init_0 9 rfl rfl)
theorem dX1_init_10 : decode cX1_init 10 = .ok (.invokespecial 11, 3) := dk_183 0 11 (dk_at dksX1_init_0 10 rfl rfl)
theorem dX1_init_13 : decode cX1_init 13 = .ok (.putfield 14, 3) := dk_181 0 14 (dk_at dksX1_init_0 13 rfl rfl)
theorem dX1_init_16 : decode cX1_init 16 = .ok (.aload_n 0, 1) := dk_42 (dk_at dksX1_init_0 16 rfl rfl)
theorem dX1_init_17 : decode cX1_init 17 = .ok (.new 9, 3) := dk_187 0 9 (dk_at dksX1_init_0 17 rfl rfl)
theorem dX1_init_20 : decode cX1_init 20 = .ok (.dup, 1) := dk_89 (dk_at dksX1_init_0 20 rfl rfl)
theorem dX1_init_21 : decode cX1_init 21 = .ok (.iconst 2, 1) := dk_5 (dk_at dksX1_init_0 21 rfl rfl)
theorem dX1_init_22 : decode cX1_init 22 = .ok (.invokespecial 11, 3) := dk_183 0 11 (dk_at dksX1_init_1 0 rfl rfl)
theorem dX1_init_25 : decode cX1_init 25 = .ok (.putfield 20, 3) := dk_181 0 20 (dk_at dksX1_init_1 3 rfl rfl)
theorem dX1_init_28 : decode cX1_init 28 = .ok (.aload_n 0, 1) := dk_42 (dk_at dksX1_init_1 6 rfl rfl)
theorem dX1_init_29 : decode cX1_init 29 = .ok (.bipush 8, 2) := dk_16 8 (dk_at dksX1_init_1 7 rfl rfl)
theorem dX1_init_31 : decode cX1_init 31 = .ok (.newarray .int, 2) := dk_188_10 (dk_at dksX1_init_1 9 rfl rfl)
theorem dX1_init_33 : decode cX1_init 33 = .ok (.putfield 23, 3) := dk_181 0 23 (dk_at dksX1_init_1 11 rfl rfl)
theorem dX1_init_36 : decode cX1_init 36 = .ok (.aload_n 0, 1) := dk_42 (dk_at dksX1_init_1 14 rfl rfl)
theorem dX1_init_37 : decode cX1_init 37 = .ok (.iconst (-1), 1) := dk_2 (dk_at dksX1_init_1 15 rfl rfl)
theorem dX1_init_38 : decode cX1_init 38 = .ok (.putfield 27, 3) := dk_181 0 27 (dk_at dksX1_init_1 16 rfl rfl)
theorem dX1_init_41 : decode cX1_init 41 = .ok (.aload_n 0, 1) := dk_42 (dk_at dksX1_init_1 19 rfl rfl)
theorem dX1_init_42 : decode cX1_init 42 = .ok (.iconst (-1), 1) := dk_2 (dk_at dksX1_init_1 20 rfl rfl)
theorem dX1_init_43 : decode cX1_init 43 = .ok (.putfield 31, 3) := dk_181 0 31 (dk_at dksX1_init_1 21 rfl rfl)
theorem dX1_init_46 : decode cX1_init 46 = .ok (.iconst 0, 1) := dk_3 (dk_at dksX1_init_2 0 rfl rfl)
theorem dX1_init_47 : decode cX1_init 47 = .ok (.istore_n 1, 1) := dk_60 (dk_at dksX1_init_2 1 rfl rfl)
theorem dX1_init_48 : decode cX1_init 48 = .ok (.iload_n 1, 1) := dk_27 (dk_at dksX1_init_2 2 rfl rfl)
theorem dX1_init_49 : decode cX1_init 49 = .ok (.bipush 8, 2) := dk_16 8 (dk_at dksX1_init_2 3 rfl rfl)
theorem dX1_init_51 : decode cX1_init 51 = .ok (.if_icmp .ge 16, 3) := dk_162 0 16 (dk_at dksX1_init_2 5 rfl rfl)
theorem dX1_init_54 : decode cX1_init 54 = .ok (.aload_n 0, 1) := dk_42 (dk_at dksX1_init_2 8 rfl rfl)
theorem dX1_init_55 : decode cX1_init 55 = .ok (.getfield 23, 3) := dk_180 0 23 (dk_at dksX1_init_2 9 rfl rfl)
theorem dX1_init_58 : decode cX1_init 58 = .ok (.iload_n 1, 1) := dk_27 (dk_at dksX1_init_2 12 rfl rfl)
theorem dX1_init_59 : decode cX1_init 59 = .ok (.iload_n 1, 1) := dk_27 (dk_at dksX1_init_2 13 rfl rfl)
theorem dX1_init_60 : decode cX1_init 60 = .ok (.iastore, 1) := dk_79 (dk_at dksX1_init_2 14 rfl rfl)
theorem dX1_init_61 : decode cX1_init 61 = .ok (.iinc 1 1, 3) := dk_132 1 1 (dk_at dksX1_init_2 15 rfl rfl)
theorem dX1_init_64 : decode cX1_init 64 = .ok (.goto (-16), 3) := dk_167 255 240 (dk_at dksX1_init_2 18 rfl rfl)
theorem dX1_init_67 : decode cX1_init 67 = .ok (.return_, 1) := dk_177 (dk_at dksX1_init_2 21 rfl rfl)
abbrev cX1_isJoined : ByteArray := prog_4_method_4_code
def yX1_isJoined : MethodName := ⟨RX1, "isJoined", "(II)Z"⟩
def dkwX1_isJoined_1 : List UInt8 := [27, 28, 182, 0, 48, 153, 0, 5, 4, 172, 132, 3, 1, 167, 255, 221, 3, 172]
abbrev dktX1_isJoined_1 : List UInt8 := dkwX1_isJoined_1 ++ []
def dkwX1_isJoined_0 : List UInt8 := [3, 62, 29, 42, 180, 0, 20, 182, 0, 34, 162, 0, 30, 42, 180, 0, 20, 29, 182, 0, 42, 192, 0, 46]
abbrev dktX1_isJoined_0 : List UInt8 := dkwX1_isJoined_0 ++ dktX1_isJoined_1
theorem dksX1_isJoined_0 : cX1_isJoined.data.toList.drop 0 = dktX1_isJoined_0 := by decide +kernel
theorem dksX1_isJoined_1 : cX1_isJoined.data.toList.drop 24 = dktX1_isJoined_1 := dk_seg dksX1_isJoined_0 24 rfl rfl
theorem dX1_isJoined_0 : decode cX1_isJoined 0 = .ok (.iconst 0, 1) := dk_3 (dk_at dksX1_isJoined_0 0 rfl rfl)
theorem dX1_isJoined_1 : decode cX1_isJoined 1 = .ok (.istore_n 3, 1) := dk_62 (dk_at dksX1_isJoined_0 1 rfl rfl)
theorem dX1_isJoined_2 : decode cX1_isJoined 2 = .ok (.iload_n 3, 1) := dk_29 (dk_at dksX1_isJoined_0 2 rfl rfl)
theorem dX1_isJoined_3 : decode cX1_isJoined 3 = .ok (.aload_n 0, 1) := dk_42 (dk_at dksX1_isJoined_0 3 rfl rfl)
theorem dX1_isJoined_4 : decode cX1_isJoined 4 = .ok (.getfield 20, 3) := dk_180 0 20 (dk_at dksX1_isJoined_0 4 rfl rfl)
theorem dX1_isJoined_7 : decode cX1_isJoined 7 = .ok (.invokevirtual 34, 3) := dk_182 0 34 (dk_at dksX1_isJoined_0 7 rfl rfl)
theorem dX1_isJoined_10 : decode cX1_isJoined 10 = .ok (.if_icmp .ge 30, 3) := dk_162 0 30 (dk_at dksX1_isJoined_0 10 rfl rfl)
theorem dX1_isJoined_13 : decode cX1_isJoined 13 = .ok (.aload_n 0, 1) := dk_42 (dk_at dksX1_isJoined_0 13 rfl rfl)
theorem dX1_isJoined_14 : decode cX1_isJoined 14 = .ok (.getfield 20, 3) := dk_180 0 20 (dk_at dksX1_isJoined_0 14 rfl rfl)
theorem dX1_isJoined_17 : decode cX1_isJoined 17 = .ok (.iload_n 3, 1) := dk_29 (dk_at dksX1_isJoined_0 17 rfl rfl)
theorem dX1_isJoined_18 : decode cX1_isJoined 18 = .ok (.invokevirtual 42, 3) := dk_182 0 42 (dk_at dksX1_isJoined_0 18 rfl rfl)
theorem dX1_isJoined_21 : decode cX1_isJoined 21 = .ok (.checkcast 46, 3) := dk_192 0 46 (dk_at dksX1_isJoined_0 21 rfl rfl)
theorem dX1_isJoined_24 : decode cX1_isJoined 24 = .ok (.iload_n 1, 1) := dk_27 (dk_at dksX1_isJoined_1 0 rfl rfl)
theorem dX1_isJoined_25 : decode cX1_isJoined 25 = .ok (.iload_n 2, 1) := dk_28 (dk_at dksX1_isJoined_1 1 rfl rfl)
theorem dX1_isJoined_26 : decode cX1_isJoined 26 = .ok (.invokevirtual 48, 3) := dk_182 0 48 (dk_at dksX1_isJoined_1 2 rfl rfl)
theorem dX1_isJoined_29 : decode cX1_isJoined 29 = .ok (.ifCond .eq 5, 3) := dk_153 0 5 (dk_at dksX1_isJoined_1 5 rfl rfl)
theorem dX1_isJoined_32 : decode cX1_isJoined 32 = .ok (.iconst 1, 1) := dk_4 (dk_at dksX1_isJoined_1 8 rfl rfl)
theorem dX1_isJoined_33 : decode cX1_isJoined 33 = .ok (.ireturn, 1) := dk_172 (dk_at dksX1_isJoined_1 9 rfl rfl)
theorem dX1_isJoined_34 : decode cX1_isJoined 34 = .ok (.iinc 3 1, 3) := dk_132 3 1 (dk_at dksX1_isJoined_1 10 rfl rfl)
theorem dX1_isJoined_37 : decode cX1_isJoined 37 = .ok (.goto (-35), 3) := dk_167 255 221 (dk_at dksX1_isJoined_1 13 rfl rfl)
theorem dX1_isJoined_40 : decode cX1_isJoined 40 = .ok (.iconst 0, 1) := dk_3 (dk_at dksX1_isJoined_1 16 rfl rfl)
theorem dX1_isJoined_41 : decode cX1_isJoined 41 = .ok (.ireturn, 1) := dk_172 (dk_at dksX1_isJoined_1 17 rfl rfl)
abbrev cX1_many : ByteArray := prog_4_method_2_code
def yX1_many : MethodName := ⟨RX1, "many", "()I"⟩
def dkwX1_many_0 : List UInt8 := [42, 180, 0, 14, 182, 0, 34, 172]
abbrev dktX1_many_0 : List UInt8 := dkwX1_many_0 ++ []
theorem dksX1_many_0 : cX1_many.data.toList.drop 0 = dktX1_many_0 := by decide +kernel
theorem dX1_many_0 : decode cX1_many 0 = .ok (.aload_n 0, 1) := dk_42 (dk_at dksX1_many_0 0 rfl rfl)
theorem dX1_many_1 : decode cX1_many 1 = .ok (.getfield 14, 3) := dk_180 0 14 (dk_at dksX1_many_0 1 rfl rfl)
theorem dX1_many_4 : decode cX1_many 4 = .ok (.invokevirtual 34, 3) := dk_182 0 34 (dk_at dksX1_many_0 4 rfl rfl)
theorem dX1_many_7 : decode cX1_many 7 = .ok (.ireturn, 1) := dk_172 (dk_at dksX1_many_0 7 rfl rfl)
abbrev cX1_isOpen : ByteArray := prog_4_method_5_code
def yX1_isOpen : MethodName := ⟨RX1, "isOpen", "(II)Z"⟩
def dkwX1_isOpen_2 : List UInt8 := [153, 0, 7, 4, 167, 0, 4, 3, 172]
abbrev dktX1_isOpen_2 : List UInt8 := dkwX1_isOpen_2 ++ []
def dkwX1_isOpen_1 : List UInt8 := [180, 0, 23, 45, 180, 0, 55, 46, 159, 0, 22, 45, 180, 0, 58, 153, 0, 11, 42, 28, 182, 0, 62]
abbrev dktX1_isOpen_1 : List UInt8 := dkwX1_isOpen_1 ++ dktX1_isOpen_2
def dkwX1_isOpen_0 : List UInt8 := [42, 180, 0, 20, 27, 182, 0, 42, 192, 0, 46, 78, 42, 180, 0, 23, 45, 180, 0, 52, 46, 42]
abbrev dktX1_isOpen_0 : List UInt8 := dkwX1_isOpen_0 ++ dktX1_isOpen_1
theorem dksX1_isOpen_0 : cX1_isOpen.data.toList.drop 0 = dktX1_isOpen_0 := by decide +kernel
theorem dksX1_isOpen_1 : cX1_isOpen.data.toList.drop 22 = dktX1_isOpen_1 := dk_seg dksX1_isOpen_0 22 rfl rfl
theorem dksX1_isOpen_2 : cX1_isOpen.data.toList.drop 45 = dktX1_isOpen_2 := dk_seg dksX1_isOpen_1 23 rfl rfl
theorem dX1_isOpen_0 : decode cX1_isOpen 0 = .ok (.aload_n 0, 1) := dk_42 (dk_at dksX1_isOpen_0 0 rfl rfl)
theorem dX1_isOpen_1 : decode cX1_isOpen 1 = .ok (.getfield 20, 3) := dk_180 0 20 (dk_at dksX1_isOpen_0 1 rfl rfl)
theorem dX1_isOpen_4 : decode cX1_isOpen 4 = .ok (.iload_n 1, 1) := dk_27 (dk_at dksX1_isOpen_0 4 rfl rfl)
theorem dX1_isOpen_5 : decode cX1_isOpen 5 = .ok (.invokevirtual 42, 3) := dk_182 0 42 (dk_at dksX1_isOpen_0 5 rfl rfl)
theorem dX1_isOpen_8 : decode cX1_isOpen 8 = .ok (.checkcast 46, 3) := dk_192 0 46 (dk_at dksX1_isOpen_0 8 rfl rfl)
theorem dX1_isOpen_11 : decode cX1_isOpen 11 = .ok (.astore_n 3, 1) := dk_78 (dk_at dksX1_isOpen_0 11 rfl rfl)
theorem dX1_isOpen_12 : decode cX1_isOpen 12 = .ok (.aload_n 0, 1) := dk_42 (dk_at dksX1_isOpen_0 12 rfl rfl)
theorem dX1_isOpen_13 : decode cX1_isOpen 13 = .ok (.getfield 23, 3) := dk_180 0 23 (dk_at dksX1_isOpen_0 13 rfl rfl)
theorem dX1_isOpen_16 : decode cX1_isOpen 16 = .ok (.aload_n 3, 1) := dk_45 (dk_at dksX1_isOpen_0 16 rfl rfl)
theorem dX1_isOpen_17 : decode cX1_isOpen 17 = .ok (.getfield 52, 3) := dk_180 0 52 (dk_at dksX1_isOpen_0 17 rfl rfl)
theorem dX1_isOpen_20 : decode cX1_isOpen 20 = .ok (.iaload, 1) := dk_46 (dk_at dksX1_isOpen_0 20 rfl rfl)
theorem dX1_isOpen_21 : decode cX1_isOpen 21 = .ok (.aload_n 0, 1) := dk_42 (dk_at dksX1_isOpen_0 21 rfl rfl)
theorem dX1_isOpen_22 : decode cX1_isOpen 22 = .ok (.getfield 23, 3) := dk_180 0 23 (dk_at dksX1_isOpen_1 0 rfl rfl)
theorem dX1_isOpen_25 : decode cX1_isOpen 25 = .ok (.aload_n 3, 1) := dk_45 (dk_at dksX1_isOpen_1 3 rfl rfl)
theorem dX1_isOpen_26 : decode cX1_isOpen 26 = .ok (.getfield 55, 3) := dk_180 0 55 (dk_at dksX1_isOpen_1 4 rfl rfl)
theorem dX1_isOpen_29 : decode cX1_isOpen 29 = .ok (.iaload, 1) := dk_46 (dk_at dksX1_isOpen_1 7 rfl rfl)
theorem dX1_isOpen_30 : decode cX1_isOpen 30 = .ok (.if_icmp .eq 22, 3) := dk_159 0 22 (dk_at dksX1_isOpen_1 8 rfl rfl)
theorem dX1_isOpen_33 : decode cX1_isOpen 33 = .ok (.aload_n 3, 1) := dk_45 (dk_at dksX1_isOpen_1 11 rfl rfl)
theorem dX1_isOpen_34 : decode cX1_isOpen 34 = .ok (.getfield 58, 3) := dk_180 0 58 (dk_at dksX1_isOpen_1 12 rfl rfl)
theorem dX1_isOpen_37 : decode cX1_isOpen 37 = .ok (.ifCond .eq 11, 3) := dk_153 0 11 (dk_at dksX1_isOpen_1 15 rfl rfl)
theorem dX1_isOpen_40 : decode cX1_isOpen 40 = .ok (.aload_n 0, 1) := dk_42 (dk_at dksX1_isOpen_1 18 rfl rfl)
theorem dX1_isOpen_41 : decode cX1_isOpen 41 = .ok (.iload_n 2, 1) := dk_28 (dk_at dksX1_isOpen_1 19 rfl rfl)
theorem dX1_isOpen_42 : decode cX1_isOpen 42 = .ok (.invokevirtual 62, 3) := dk_182 0 62 (dk_at dksX1_isOpen_1 20 rfl rfl)
theorem dX1_isOpen_45 : decode cX1_isOpen 45 = .ok (.ifCond .eq 7, 3) := dk_153 0 7 (dk_at dksX1_isOpen_2 0 rfl rfl)
theorem dX1_isOpen_48 : decode cX1_isOpen 48 = .ok (.iconst 1, 1) := dk_4 (dk_at dksX1_isOpen_2 3 rfl rfl)
theorem dX1_isOpen_49 : decode cX1_isOpen 49 = .ok (.goto 4, 3) := dk_167 0 4 (dk_at dksX1_isOpen_2 4 rfl rfl)
theorem dX1_isOpen_52 : decode cX1_isOpen 52 = .ok (.iconst 0, 1) := dk_3 (dk_at dksX1_isOpen_2 7 rfl rfl)
theorem dX1_isOpen_53 : decode cX1_isOpen 53 = .ok (.ireturn, 1) := dk_172 (dk_at dksX1_isOpen_2 8 rfl rfl)
abbrev cX1_isNight : ByteArray := prog_4_method_3_code
def yX1_isNight : MethodName := ⟨RX1, "isNight", "(I)Z"⟩
def dkwX1_isNight_1 : List UInt8 := [184, 0, 38, 153, 0, 7, 4, 167, 0, 4, 3, 172]
abbrev dktX1_isNight_1 : List UInt8 := dkwX1_isNight_1 ++ []
def dkwX1_isNight_0 : List UInt8 := [42, 180, 0, 27, 2, 159, 0, 28, 27, 16, 24, 112, 133, 42, 180, 0, 27, 133, 42, 180, 0, 31, 133]
abbrev dktX1_isNight_0 : List UInt8 := dkwX1_isNight_0 ++ dktX1_isNight_1
theorem dksX1_isNight_0 : cX1_isNight.data.toList.drop 0 = dktX1_isNight_0 := by decide +kernel
theorem dksX1_isNight_1 : cX1_isNight.data.toList.drop 23 = dktX1_isNight_1 := dk_seg dksX1_isNight_0 23 rfl rfl
theorem dX1_isNight_0 : decode cX1_isNight 0 = .ok (.aload_n 0, 1) := dk_42 (dk_at dksX1_isNight_0 0 rfl rfl)
theorem dX1_isNight_1 : decode cX1_isNight 1 = .ok (.getfield 27, 3) := dk_180 0 27 (dk_at dksX1_isNight_0 1 rfl rfl)
theorem dX1_isNight_4 : decode cX1_isNight 4 = .ok (.iconst (-1), 1) := dk_2 (dk_at dksX1_isNight_0 4 rfl rfl)
theorem dX1_isNight_5 : decode cX1_isNight 5 = .ok (.if_icmp .eq 28, 3) := dk_159 0 28 (dk_at dksX1_isNight_0 5 rfl rfl)
theorem dX1_isNight_8 : decode cX1_isNight 8 = .ok (.iload_n 1, 1) := dk_27 (dk_at dksX1_isNight_0 8 rfl rfl)
theorem dX1_isNight_9 : decode cX1_isNight 9 = .ok (.bipush 24, 2) := dk_16 24 (dk_at dksX1_isNight_0 9 rfl rfl)
theorem dX1_isNight_11 : decode cX1_isNight 11 = .ok (.irem, 1) := dk_112 (dk_at dksX1_isNight_0 11 rfl rfl)
theorem dX1_isNight_12 : decode cX1_isNight 12 = .ok (.i2l, 1) := dk_133 (dk_at dksX1_isNight_0 12 rfl rfl)
theorem dX1_isNight_13 : decode cX1_isNight 13 = .ok (.aload_n 0, 1) := dk_42 (dk_at dksX1_isNight_0 13 rfl rfl)
theorem dX1_isNight_14 : decode cX1_isNight 14 = .ok (.getfield 27, 3) := dk_180 0 27 (dk_at dksX1_isNight_0 14 rfl rfl)
theorem dX1_isNight_17 : decode cX1_isNight 17 = .ok (.i2l, 1) := dk_133 (dk_at dksX1_isNight_0 17 rfl rfl)
theorem dX1_isNight_18 : decode cX1_isNight 18 = .ok (.aload_n 0, 1) := dk_42 (dk_at dksX1_isNight_0 18 rfl rfl)
theorem dX1_isNight_19 : decode cX1_isNight 19 = .ok (.getfield 31, 3) := dk_180 0 31 (dk_at dksX1_isNight_0 19 rfl rfl)
theorem dX1_isNight_22 : decode cX1_isNight 22 = .ok (.i2l, 1) := dk_133 (dk_at dksX1_isNight_0 22 rfl rfl)
theorem dX1_isNight_23 : decode cX1_isNight 23 = .ok (.invokestatic 38, 3) := dk_184 0 38 (dk_at dksX1_isNight_1 0 rfl rfl)
theorem dX1_isNight_26 : decode cX1_isNight 26 = .ok (.ifCond .eq 7, 3) := dk_153 0 7 (dk_at dksX1_isNight_1 3 rfl rfl)
theorem dX1_isNight_29 : decode cX1_isNight 29 = .ok (.iconst 1, 1) := dk_4 (dk_at dksX1_isNight_1 6 rfl rfl)
theorem dX1_isNight_30 : decode cX1_isNight 30 = .ok (.goto 4, 3) := dk_167 0 4 (dk_at dksX1_isNight_1 7 rfl rfl)
theorem dX1_isNight_33 : decode cX1_isNight 33 = .ok (.iconst 0, 1) := dk_3 (dk_at dksX1_isNight_1 10 rfl rfl)
theorem dX1_isNight_34 : decode cX1_isNight 34 = .ok (.ireturn, 1) := dk_172 (dk_at dksX1_isNight_1 11 rfl rfl)
abbrev cX1_inner : ByteArray := prog_4_method_6_code
def yX1_inner : MethodName := ⟨RX1, "inner", "(I)I"⟩
def dkwX1_inner_3 : List UInt8 := [167, 0, 7, 44, 180, 0, 55, 172]
abbrev dktX1_inner_3 : List UInt8 := dkwX1_inner_3 ++ []
def dkwX1_inner_2 : List UInt8 := [180, 0, 23, 44, 180, 0, 52, 46, 42, 180, 0, 23, 44, 180, 0, 55, 46, 162, 0, 10, 44, 180, 0, 52]
abbrev dktX1_inner_2 : List UInt8 := dkwX1_inner_2 ++ dktX1_inner_3
def dkwX1_inner_1 : List UInt8 := [180, 0, 23, 44, 180, 0, 55, 46, 160, 0, 15, 44, 180, 0, 52, 44, 180, 0, 55, 184, 0, 66, 172, 42]
abbrev dktX1_inner_1 : List UInt8 := dkwX1_inner_1 ++ dktX1_inner_2
def dkwX1_inner_0 : List UInt8 := [42, 180, 0, 20, 27, 182, 0, 42, 192, 0, 46, 77, 42, 180, 0, 23, 44, 180, 0, 52, 46, 42]
abbrev dktX1_inner_0 : List UInt8 := dkwX1_inner_0 ++ dktX1_inner_1
theorem dksX1_inner_0 : cX1_inner.data.toList.drop 0 = dktX1_inner_0 := by decide +kernel
theorem dksX1_inner_1 : cX1_inner.data.toList.drop 22 = dktX1_inner_1 := dk_seg dksX1_inner_0 22 rfl rfl
theorem dksX1_inner_2 : cX1_inner.data.toList.drop 46 = dktX1_inner_2 := dk_seg dksX1_inner_1 24 rfl rfl
theorem dksX1_inner_3 : cX1_inner.data.toList.drop 70 = dktX1_inner_3 := dk_seg dksX1_inner_2 24 rfl rfl
theorem dX1_inner_0 : decode cX1_inner 0 = .ok (.aload_n 0, 1) := dk_42 (dk_at dksX1_inner_0 0 rfl rfl)
theorem dX1_inner_1 : decode cX1_inner 1 = .ok (.getfield 20, 3) := dk_180 0 20 (dk_at dksX1_inner_0 1 rfl rfl)
theorem dX1_inner_4 : decode cX1_inner 4 = .ok (.iload_n 1, 1) := dk_27 (dk_at dksX1_inner_0 4 rfl rfl)
theorem dX1_inner_5 : decode cX1_inner 5 = .ok (.invokevirtual 42, 3) := dk_182 0 42 (dk_at dksX1_inner_0 5 rfl rfl)
theorem dX1_inner_8 : decode cX1_inner 8 = .ok (.checkcast 46, 3) := dk_192 0 46 (dk_at dksX1_inner_0 8 rfl rfl)
theorem dX1_inner_11 : decode cX1_inner 11 = .ok (.astore_n 2, 1) := dk_77 (dk_at dksX1_inner_0 11 rfl rfl)
theorem dX1_inner_12 : decode cX1_inner 12 = .ok (.aload_n 0, 1) := dk_42 (dk_at dksX1_inner_0 12 rfl rfl)
theorem dX1_inner_13 : decode cX1_inner 13 = .ok (.getfield 23, 3) := dk_180 0 23 (dk_at dksX1_inner_0 13 rfl rfl)
theorem dX1_inner_16 : decode cX1_inner 16 = .ok (.aload_n 2, 1) := dk_44 (dk_at dksX1_inner_0 16 rfl rfl)
theorem dX1_inner_17 : decode cX1_inner 17 = .ok (.getfield 52, 3) := dk_180 0 52 (dk_at dksX1_inner_0 17 rfl rfl)
theorem dX1_inner_20 : decode cX1_inner 20 = .ok (.iaload, 1) := dk_46 (dk_at dksX1_inner_0 20 rfl rfl)
theorem dX1_inner_21 : decode cX1_inner 21 = .ok (.aload_n 0, 1) := dk_42 (dk_at dksX1_inner_0 21 rfl rfl)
theorem dX1_inner_22 : decode cX1_inner 22 = .ok (.getfield 23, 3) := dk_180 0 23 (dk_at dksX1_inner_1 0 rfl rfl)
theorem dX1_inner_25 : decode cX1_inner 25 = .ok (.aload_n 2, 1) := dk_44 (dk_at dksX1_inner_1 3 rfl rfl)
theorem dX1_inner_26 : decode cX1_inner 26 = .ok (.getfield 55, 3) := dk_180 0 55 (dk_at dksX1_inner_1 4 rfl rfl)
theorem dX1_inner_29 : decode cX1_inner 29 = .ok (.iaload, 1) := dk_46 (dk_at dksX1_inner_1 7 rfl rfl)
theorem dX1_inner_30 : decode cX1_inner 30 = .ok (.if_icmp .ne 15, 3) := dk_160 0 15 (dk_at dksX1_inner_1 8 rfl rfl)
theorem dX1_inner_33 : decode cX1_inner 33 = .ok (.aload_n 2, 1) := dk_44 (dk_at dksX1_inner_1 11 rfl rfl)
theorem dX1_inner_34 : decode cX1_inner 34 = .ok (.getfield 52, 3) := dk_180 0 52 (dk_at dksX1_inner_1 12 rfl rfl)
theorem dX1_inner_37 : decode cX1_inner 37 = .ok (.aload_n 2, 1) := dk_44 (dk_at dksX1_inner_1 15 rfl rfl)
theorem dX1_inner_38 : decode cX1_inner 38 = .ok (.getfield 55, 3) := dk_180 0 55 (dk_at dksX1_inner_1 16 rfl rfl)
theorem dX1_inner_41 : decode cX1_inner 41 = .ok (.invokestatic 66, 3) := dk_184 0 66 (dk_at dksX1_inner_1 19 rfl rfl)
theorem dX1_inner_44 : decode cX1_inner 44 = .ok (.ireturn, 1) := dk_172 (dk_at dksX1_inner_1 22 rfl rfl)
theorem dX1_inner_45 : decode cX1_inner 45 = .ok (.aload_n 0, 1) := dk_42 (dk_at dksX1_inner_1 23 rfl rfl)
theorem dX1_inner_46 : decode cX1_inner 46 = .ok (.getfield 23, 3) := dk_180 0 23 (dk_at dksX1_inner_2 0 rfl rfl)
theorem dX1_inner_49 : decode cX1_inner 49 = .ok (.aload_n 2, 1) := dk_44 (dk_at dksX1_inner_2 3 rfl rfl)
theorem dX1_inner_50 : decode cX1_inner 50 = .ok (.getfield 52, 3) := dk_180 0 52 (dk_at dksX1_inner_2 4 rfl rfl)
theorem dX1_inner_53 : decode cX1_inner 53 = .ok (.iaload, 1) := dk_46 (dk_at dksX1_inner_2 7 rfl rfl)
theorem dX1_inner_54 : decode cX1_inner 54 = .ok (.aload_n 0, 1) := dk_42 (dk_at dksX1_inner_2 8 rfl rfl)
theorem dX1_inner_55 : decode cX1_inner 55 = .ok (.getfield 23, 3) := dk_180 0 23 (dk_at dksX1_inner_2 9 rfl rfl)
theorem dX1_inner_58 : decode cX1_inner 58 = .ok (.aload_n 2, 1) := dk_44 (dk_at dksX1_inner_2 12 rfl rfl)
theorem dX1_inner_59 : decode cX1_inner 59 = .ok (.getfield 55, 3) := dk_180 0 55 (dk_at dksX1_inner_2 13 rfl rfl)
theorem dX1_inner_62 : decode cX1_inner 62 = .ok (.iaload, 1) := dk_46 (dk_at dksX1_inner_2 16 rfl rfl)
theorem dX1_inner_63 : decode cX1_inner 63 = .ok (.if_icmp .ge 10, 3) := dk_162 0 10 (dk_at dksX1_inner_2 17 rfl rfl)
theorem dX1_inner_66 : decode cX1_inner 66 = .ok (.aload_n 2, 1) := dk_44 (dk_at dksX1_inner_2 20 rfl rfl)
theorem dX1_inner_67 : decode cX1_inner 67 = .ok (.getfield 52, 3) := dk_180 0 52 (dk_at dksX1_inner_2 21 rfl rfl)
theorem dX1_inner_70 : decode cX1_inner 70 = .ok (.goto 7, 3) := dk_167 0 7 (dk_at dksX1_inner_3 0 rfl rfl)
theorem dX1_inner_73 : decode cX1_inner 73 = .ok (.aload_n 2, 1) := dk_44 (dk_at dksX1_inner_3 3 rfl rfl)
theorem dX1_inner_74 : decode cX1_inner 74 = .ok (.getfield 55, 3) := dk_180 0 55 (dk_at dksX1_inner_3 4 rfl rfl)
theorem dX1_inner_77 : decode cX1_inner 77 = .ok (.ireturn, 1) := dk_172 (dk_at dksX1_inner_3 7 rfl rfl)
abbrev cX1_outer : ByteArray := prog_4_method_7_code
def yX1_outer : MethodName := ⟨RX1, "outer", "(I)I"⟩
def dkwX1_outer_1 : List UInt8 := [182, 0, 72, 100, 172]
abbrev dktX1_outer_1 : List UInt8 := dkwX1_outer_1 ++ []
def dkwX1_outer_0 : List UInt8 := [42, 180, 0, 20, 27, 182, 0, 42, 192, 0, 46, 77, 44, 180, 0, 52, 44, 180, 0, 55, 96, 42, 27]
abbrev dktX1_outer_0 : List UInt8 := dkwX1_outer_0 ++ dktX1_outer_1
theorem dksX1_outer_0 : cX1_outer.data.toList.drop 0 = dktX1_outer_0 := by decide +kernel
theorem dksX1_outer_1 : cX1_outer.data.toList.drop 23 = dktX1_outer_1 := dk_seg dksX1_outer_0 23 rfl rfl
theorem dX1_outer_0 : decode cX1_outer 0 = .ok (.aload_n 0, 1) := dk_42 (dk_at dksX1_outer_0 0 rfl rfl)
theorem dX1_outer_1 : decode cX1_outer 1 = .ok (.getfield 20, 3) := dk_180 0 20 (dk_at dksX1_outer_0 1 rfl rfl)
theorem dX1_outer_4 : decode cX1_outer 4 = .ok (.iload_n 1, 1) := dk_27 (dk_at dksX1_outer_0 4 rfl rfl)
theorem dX1_outer_5 : decode cX1_outer 5 = .ok (.invokevirtual 42, 3) := dk_182 0 42 (dk_at dksX1_outer_0 5 rfl rfl)
theorem dX1_outer_8 : decode cX1_outer 8 = .ok (.checkcast 46, 3) := dk_192 0 46 (dk_at dksX1_outer_0 8 rfl rfl)
theorem dX1_outer_11 : decode cX1_outer 11 = .ok (.astore_n 2, 1) := dk_77 (dk_at dksX1_outer_0 11 rfl rfl)
theorem dX1_outer_12 : decode cX1_outer 12 = .ok (.aload_n 2, 1) := dk_44 (dk_at dksX1_outer_0 12 rfl rfl)
theorem dX1_outer_13 : decode cX1_outer 13 = .ok (.getfield 52, 3) := dk_180 0 52 (dk_at dksX1_outer_0 13 rfl rfl)
theorem dX1_outer_16 : decode cX1_outer 16 = .ok (.aload_n 2, 1) := dk_44 (dk_at dksX1_outer_0 16 rfl rfl)
theorem dX1_outer_17 : decode cX1_outer 17 = .ok (.getfield 55, 3) := dk_180 0 55 (dk_at dksX1_outer_0 17 rfl rfl)
theorem dX1_outer_20 : decode cX1_outer 20 = .ok (.iadd, 1) := dk_96 (dk_at dksX1_outer_0 20 rfl rfl)
theorem dX1_outer_21 : decode cX1_outer 21 = .ok (.aload_n 0, 1) := dk_42 (dk_at dksX1_outer_0 21 rfl rfl)
theorem dX1_outer_22 : decode cX1_outer 22 = .ok (.iload_n 1, 1) := dk_27 (dk_at dksX1_outer_0 22 rfl rfl)
theorem dX1_outer_23 : decode cX1_outer 23 = .ok (.invokevirtual 72, 3) := dk_182 0 72 (dk_at dksX1_outer_1 0 rfl rfl)
theorem dX1_outer_26 : decode cX1_outer 26 = .ok (.isub, 1) := dk_100 (dk_at dksX1_outer_1 3 rfl rfl)
theorem dX1_outer_27 : decode cX1_outer 27 = .ok (.ireturn, 1) := dk_172 (dk_at dksX1_outer_1 4 rfl rfl)
abbrev cX1_between : ByteArray := prog_4_method_8_code
def yX1_between : MethodName := ⟨RX1, "between", "(III)I"⟩
def dkwX1_between_2 : List UInt8 := [132, 4, 1, 167, 255, 208, 2, 172]
abbrev dktX1_between_2 : List UInt8 := dkwX1_between_2 ++ []
def dkwX1_between_1 : List UInt8 := [192, 0, 46, 27, 28, 182, 0, 48, 153, 0, 16, 42, 21, 4, 29, 182, 0, 76, 153, 0, 6, 21, 4, 172]
abbrev dktX1_between_1 : List UInt8 := dkwX1_between_1 ++ dktX1_between_2
def dkwX1_between_0 : List UInt8 := [3, 54, 4, 21, 4, 42, 180, 0, 20, 182, 0, 34, 162, 0, 42, 42, 180, 0, 20, 21, 4, 182, 0, 42]
abbrev dktX1_between_0 : List UInt8 := dkwX1_between_0 ++ dktX1_between_1
theorem dksX1_between_0 : cX1_between.data.toList.drop 0 = dktX1_between_0 := by decide +kernel
theorem dksX1_between_1 : cX1_between.data.toList.drop 24 = dktX1_between_1 := dk_seg dksX1_between_0 24 rfl rfl
theorem dksX1_between_2 : cX1_between.data.toList.drop 48 = dktX1_between_2 := dk_seg dksX1_between_1 24 rfl rfl
theorem dX1_between_0 : decode cX1_between 0 = .ok (.iconst 0, 1) := dk_3 (dk_at dksX1_between_0 0 rfl rfl)
theorem dX1_between_1 : decode cX1_between 1 = .ok (.istore 4, 2) := dk_54 4 (dk_at dksX1_between_0 1 rfl rfl)
theorem dX1_between_3 : decode cX1_between 3 = .ok (.iload 4, 2) := dk_21 4 (dk_at dksX1_between_0 3 rfl rfl)
theorem dX1_between_5 : decode cX1_between 5 = .ok (.aload_n 0, 1) := dk_42 (dk_at dksX1_between_0 5 rfl rfl)
theorem dX1_between_6 : decode cX1_between 6 = .ok (.getfield 20, 3) := dk_180 0 20 (dk_at dksX1_between_0 6 rfl rfl)
theorem dX1_between_9 : decode cX1_between 9 = .ok (.invokevirtual 34, 3) := dk_182 0 34 (dk_at dksX1_between_0 9 rfl rfl)
theorem dX1_between_12 : decode cX1_between 12 = .ok (.if_icmp .ge 42, 3) := dk_162 0 42 (dk_at dksX1_between_0 12 rfl rfl)
theorem dX1_between_15 : decode cX1_between 15 = .ok (.aload_n 0, 1) := dk_42 (dk_at dksX1_between_0 15 rfl rfl)
theorem dX1_between_16 : decode cX1_between 16 = .ok (.getfield 20, 3) := dk_180 0 20 (dk_at dksX1_between_0 16 rfl rfl)
theorem dX1_between_19 : decode cX1_between 19 = .ok (.iload 4, 2) := dk_21 4 (dk_at dksX1_between_0 19 rfl rfl)
theorem dX1_between_21 : decode cX1_between 21 = .ok (.invokevirtual 42, 3) := dk_182 0 42 (dk_at dksX1_between_0 21 rfl rfl)
theorem dX1_between_24 : decode cX1_between 24 = .ok (.checkcast 46, 3) := dk_192 0 46 (dk_at dksX1_between_1 0 rfl rfl)
theorem dX1_between_27 : decode cX1_between 27 = .ok (.iload_n 1, 1) := dk_27 (dk_at dksX1_between_1 3 rfl rfl)
theorem dX1_between_28 : decode cX1_between 28 = .ok (.iload_n 2, 1) := dk_28 (dk_at dksX1_between_1 4 rfl rfl)
theorem dX1_between_29 : decode cX1_between 29 = .ok (.invokevirtual 48, 3) := dk_182 0 48 (dk_at dksX1_between_1 5 rfl rfl)
theorem dX1_between_32 : decode cX1_between 32 = .ok (.ifCond .eq 16, 3) := dk_153 0 16 (dk_at dksX1_between_1 8 rfl rfl)
theorem dX1_between_35 : decode cX1_between 35 = .ok (.aload_n 0, 1) := dk_42 (dk_at dksX1_between_1 11 rfl rfl)
theorem dX1_between_36 : decode cX1_between 36 = .ok (.iload 4, 2) := dk_21 4 (dk_at dksX1_between_1 12 rfl rfl)
theorem dX1_between_38 : decode cX1_between 38 = .ok (.iload_n 3, 1) := dk_29 (dk_at dksX1_between_1 14 rfl rfl)
theorem dX1_between_39 : decode cX1_between 39 = .ok (.invokevirtual 76, 3) := dk_182 0 76 (dk_at dksX1_between_1 15 rfl rfl)
theorem dX1_between_42 : decode cX1_between 42 = .ok (.ifCond .eq 6, 3) := dk_153 0 6 (dk_at dksX1_between_1 18 rfl rfl)
theorem dX1_between_45 : decode cX1_between 45 = .ok (.iload 4, 2) := dk_21 4 (dk_at dksX1_between_1 21 rfl rfl)
theorem dX1_between_47 : decode cX1_between 47 = .ok (.ireturn, 1) := dk_172 (dk_at dksX1_between_1 23 rfl rfl)
theorem dX1_between_48 : decode cX1_between 48 = .ok (.iinc 4 1, 3) := dk_132 4 1 (dk_at dksX1_between_2 0 rfl rfl)
theorem dX1_between_51 : decode cX1_between 51 = .ok (.goto (-48), 3) := dk_167 255 208 (dk_at dksX1_between_2 3 rfl rfl)
theorem dX1_between_54 : decode cX1_between 54 = .ok (.iconst (-1), 1) := dk_2 (dk_at dksX1_between_2 6 rfl rfl)
theorem dX1_between_55 : decode cX1_between 55 = .ok (.ireturn, 1) := dk_172 (dk_at dksX1_between_2 7 rfl rfl)
abbrev cX1_firstOut : ByteArray := prog_4_method_9_code
def yX1_firstOut : MethodName := ⟨RX1, "firstOut", "(II)I"⟩
def dkwX1_firstOut_1 : List UInt8 := [182, 0, 72, 27, 160, 0, 5, 29, 172, 132, 3, 1, 167, 255, 222, 2, 172]
abbrev dktX1_firstOut_1 : List UInt8 := dkwX1_firstOut_1 ++ []
def dkwX1_firstOut_0 : List UInt8 := [3, 62, 29, 42, 180, 0, 20, 182, 0, 34, 162, 0, 29, 42, 29, 28, 182, 0, 76, 153, 0, 14, 42, 29]
abbrev dktX1_firstOut_0 : List UInt8 := dkwX1_firstOut_0 ++ dktX1_firstOut_1
theorem dksX1_firstOut_0 : cX1_firstOut.data.toList.drop 0 = dktX1_firstOut_0 := by decide +kernel
theorem dksX1_firstOut_1 : cX1_firstOut.data.toList.drop 24 = dktX1_firstOut_1 := dk_seg dksX1_firstOut_0 24 rfl rfl
theorem dX1_firstOut_0 : decode cX1_firstOut 0 = .ok (.iconst 0, 1) := dk_3 (dk_at dksX1_firstOut_0 0 rfl rfl)
theorem dX1_firstOut_1 : decode cX1_firstOut 1 = .ok (.istore_n 3, 1) := dk_62 (dk_at dksX1_firstOut_0 1 rfl rfl)
theorem dX1_firstOut_2 : decode cX1_firstOut 2 = .ok (.iload_n 3, 1) := dk_29 (dk_at dksX1_firstOut_0 2 rfl rfl)
theorem dX1_firstOut_3 : decode cX1_firstOut 3 = .ok (.aload_n 0, 1) := dk_42 (dk_at dksX1_firstOut_0 3 rfl rfl)
theorem dX1_firstOut_4 : decode cX1_firstOut 4 = .ok (.getfield 20, 3) := dk_180 0 20 (dk_at dksX1_firstOut_0 4 rfl rfl)
theorem dX1_firstOut_7 : decode cX1_firstOut 7 = .ok (.invokevirtual 34, 3) := dk_182 0 34 (dk_at dksX1_firstOut_0 7 rfl rfl)
theorem dX1_firstOut_10 : decode cX1_firstOut 10 = .ok (.if_icmp .ge 29, 3) := dk_162 0 29 (dk_at dksX1_firstOut_0 10 rfl rfl)
theorem dX1_firstOut_13 : decode cX1_firstOut 13 = .ok (.aload_n 0, 1) := dk_42 (dk_at dksX1_firstOut_0 13 rfl rfl)
theorem dX1_firstOut_14 : decode cX1_firstOut 14 = .ok (.iload_n 3, 1) := dk_29 (dk_at dksX1_firstOut_0 14 rfl rfl)
theorem dX1_firstOut_15 : decode cX1_firstOut 15 = .ok (.iload_n 2, 1) := dk_28 (dk_at dksX1_firstOut_0 15 rfl rfl)
theorem dX1_firstOut_16 : decode cX1_firstOut 16 = .ok (.invokevirtual 76, 3) := dk_182 0 76 (dk_at dksX1_firstOut_0 16 rfl rfl)
theorem dX1_firstOut_19 : decode cX1_firstOut 19 = .ok (.ifCond .eq 14, 3) := dk_153 0 14 (dk_at dksX1_firstOut_0 19 rfl rfl)
theorem dX1_firstOut_22 : decode cX1_firstOut 22 = .ok (.aload_n 0, 1) := dk_42 (dk_at dksX1_firstOut_0 22 rfl rfl)
theorem dX1_firstOut_23 : decode cX1_firstOut 23 = .ok (.iload_n 3, 1) := dk_29 (dk_at dksX1_firstOut_0 23 rfl rfl)
theorem dX1_firstOut_24 : decode cX1_firstOut 24 = .ok (.invokevirtual 72, 3) := dk_182 0 72 (dk_at dksX1_firstOut_1 0 rfl rfl)
theorem dX1_firstOut_27 : decode cX1_firstOut 27 = .ok (.iload_n 1, 1) := dk_27 (dk_at dksX1_firstOut_1 3 rfl rfl)
theorem dX1_firstOut_28 : decode cX1_firstOut 28 = .ok (.if_icmp .ne 5, 3) := dk_160 0 5 (dk_at dksX1_firstOut_1 4 rfl rfl)
theorem dX1_firstOut_31 : decode cX1_firstOut 31 = .ok (.iload_n 3, 1) := dk_29 (dk_at dksX1_firstOut_1 7 rfl rfl)
theorem dX1_firstOut_32 : decode cX1_firstOut 32 = .ok (.ireturn, 1) := dk_172 (dk_at dksX1_firstOut_1 8 rfl rfl)
theorem dX1_firstOut_33 : decode cX1_firstOut 33 = .ok (.iinc 3 1, 3) := dk_132 3 1 (dk_at dksX1_firstOut_1 9 rfl rfl)
theorem dX1_firstOut_36 : decode cX1_firstOut 36 = .ok (.goto (-34), 3) := dk_167 255 222 (dk_at dksX1_firstOut_1 12 rfl rfl)
theorem dX1_firstOut_39 : decode cX1_firstOut 39 = .ok (.iconst (-1), 1) := dk_2 (dk_at dksX1_firstOut_1 15 rfl rfl)
theorem dX1_firstOut_40 : decode cX1_firstOut 40 = .ok (.ireturn, 1) := dk_172 (dk_at dksX1_firstOut_1 16 rfl rfl)
theorem q151 : (Jvm.Cond.initialized "OutwardDoors$Castle") ∈ lw_all := lw_g (lw_at lw_m1 2 rfl) rfl
theorem q194 : (Jvm.Cond.instantiable "OutwardDoors$Castle" (6 : Nat)) ∈ lw_all := lw_g (lw_at lw_m1 45 rfl) rfl
theorem q196 : (Jvm.Cond.instanceMethod ({ cls := "OutwardDoors$Castle", name := "<init>", desc := "()V" } : Jvm.MethodName)) ∈ lw_all := lw_g (lw_at lw_m1 47 rfl) rfl
theorem q197 : (Jvm.Cond.code ({ cls := "OutwardDoors$Castle", name := "<init>", desc := "()V" } : Jvm.MethodName) prog_4_method_1_code (2 : Nat) (Option.none : Option Jvm.ClassFile.FieldType)) ∈ lw_all := lw_g (lw_at lw_m1 48 rfl) rfl
theorem q198 : (Jvm.Cond.methodLink "OutwardDoors$Castle" (3 : Nat) ({ cls := "java/lang/Object", name := "<init>", desc := "()V" } : Jvm.MethodName)) ∈ lw_all := lw_g (lw_at lw_m1 49 rfl) rfl
theorem q199 : (Jvm.Cond.classLink "OutwardDoors$Castle" (9 : Nat) "java/util/ArrayList") ∈ lw_all := lw_g (lw_at lw_m1 50 rfl) rfl
theorem q201 : (Jvm.Cond.methodLink "OutwardDoors$Castle" (11 : Nat) ({ cls := "java/util/ArrayList", name := "<init>", desc := "(I)V" } : Jvm.MethodName)) ∈ lw_all := lw_g (lw_at lw_m1 52 rfl) rfl
theorem q227 : (Jvm.Cond.fieldLink "OutwardDoors$Castle" (14 : Nat) "OutwardDoors$Castle" "people" "Ljava/util/ArrayList;") ∈ lw_all := lw_g (lw_at lw_m1 78 rfl) rfl
theorem q231 : (Jvm.Cond.fieldLink "OutwardDoors$Castle" (20 : Nat) "OutwardDoors$Castle" "doors" "Ljava/util/ArrayList;") ∈ lw_all := lw_g (lw_at lw_m1 82 rfl) rfl
theorem q234 : (Jvm.Cond.fieldLink "OutwardDoors$Castle" (23 : Nat) "OutwardDoors$Castle" "far" "[I") ∈ lw_all := lw_g (lw_at lw_m1 85 rfl) rfl
theorem q239 : (Jvm.Cond.fieldLink "OutwardDoors$Castle" (27 : Nat) "OutwardDoors$Castle" "nightFrom" "I") ∈ lw_all := lw_g (lw_at lw_m1 90 rfl) rfl
theorem q241 : (Jvm.Cond.fieldLink "OutwardDoors$Castle" (31 : Nat) "OutwardDoors$Castle" "nightTo" "I") ∈ lw_all := lw_g (lw_at lw_m1 92 rfl) rfl
theorem q243 : (Jvm.Cond.laysFinal "OutwardDoors$Castle" "OutwardDoors$Castle" "people" "Ljava/util/ArrayList;") ∈ lw_all := lw_g (lw_at lw_m1 94 rfl) rfl
theorem q244 : (Jvm.Cond.soleField "OutwardDoors$Castle" "people") ∈ lw_all := lw_g (lw_at lw_m1 95 rfl) rfl
theorem q245 : (Jvm.Cond.laysFinal "OutwardDoors$Castle" "OutwardDoors$Castle" "doors" "Ljava/util/ArrayList;") ∈ lw_all := lw_g (lw_at lw_m1 96 rfl) rfl
theorem q246 : (Jvm.Cond.soleField "OutwardDoors$Castle" "doors") ∈ lw_all := lw_g (lw_at lw_m1 97 rfl) rfl
theorem q247 : (Jvm.Cond.laysFinal "OutwardDoors$Castle" "OutwardDoors$Castle" "far" "[I") ∈ lw_all := lw_g (lw_at lw_m1 98 rfl) rfl
theorem q248 : (Jvm.Cond.soleField "OutwardDoors$Castle" "far") ∈ lw_all := lw_g (lw_at lw_m1 99 rfl) rfl
theorem q249 : (Jvm.Cond.lays "OutwardDoors$Castle" "OutwardDoors$Castle" "rooms" "I") ∈ lw_all := lw_g (lw_at lw_m1 100 rfl) rfl
theorem q250 : (Jvm.Cond.soleField "OutwardDoors$Castle" "rooms") ∈ lw_all := lw_g (lw_at lw_m1 101 rfl) rfl
theorem q251 : (Jvm.Cond.lays "OutwardDoors$Castle" "OutwardDoors$Castle" "nightFrom" "I") ∈ lw_all := lw_g (lw_at lw_m1 102 rfl) rfl
theorem q252 : (Jvm.Cond.soleField "OutwardDoors$Castle" "nightFrom") ∈ lw_all := lw_g (lw_at lw_m1 103 rfl) rfl
theorem q253 : (Jvm.Cond.lays "OutwardDoors$Castle" "OutwardDoors$Castle" "nightTo" "I") ∈ lw_all := lw_g (lw_at lw_m1 104 rfl) rfl
theorem q254 : (Jvm.Cond.soleField "OutwardDoors$Castle" "nightTo") ∈ lw_all := lw_g (lw_at lw_m1 105 rfl) rfl
theorem q255 : (Jvm.Cond.superclass "OutwardDoors$Castle" "java/lang/Object") ∈ lw_all := lw_g (lw_at lw_m1 106 rfl) rfl
theorem q623 : (Jvm.Cond.instanceMethod ({ cls := "OutwardDoors$Castle", name := "isJoined", desc := "(II)Z" } : Jvm.MethodName)) ∈ lw_all := lw_g (lw_at lw_m2 234 rfl) rfl
theorem q624 : (Jvm.Cond.selects "OutwardDoors$Castle" ({ cls := "OutwardDoors$Castle", name := "isJoined", desc := "(II)Z" } : Jvm.MethodName) ({ cls := "OutwardDoors$Castle", name := "isJoined", desc := "(II)Z" } : Jvm.MethodName)) ∈ lw_all := lw_g (lw_at lw_m2 235 rfl) rfl
theorem q625 : (Jvm.Cond.code ({ cls := "OutwardDoors$Castle", name := "isJoined", desc := "(II)Z" } : Jvm.MethodName) prog_4_method_4_code (4 : Nat) (Option.some Jvm.ClassFile.FieldType.boolean)) ∈ lw_all := lw_g (lw_at lw_m2 236 rfl) rfl
theorem q626 : (Jvm.Cond.methodLink "OutwardDoors$Castle" (34 : Nat) ({ cls := "java/util/ArrayList", name := "size", desc := "()I" } : Jvm.MethodName)) ∈ lw_all := lw_g (lw_at lw_m2 237 rfl) rfl
theorem q627 : (Jvm.Cond.methodLink "OutwardDoors$Castle" (42 : Nat) ({ cls := "java/util/ArrayList", name := "get", desc := "(I)Ljava/lang/Object;" } : Jvm.MethodName)) ∈ lw_all := lw_g (lw_at lw_m2 238 rfl) rfl
theorem q639 : (Jvm.Cond.classLink "OutwardDoors$Castle" (46 : Nat) "OutwardDoors$Door") ∈ lw_all := lw_g (lw_at lw_m3 10 rfl) rfl
theorem q640 : (Jvm.Cond.methodLink "OutwardDoors$Castle" (48 : Nat) ({ cls := "OutwardDoors$Door", name := "joins", desc := "(II)Z" } : Jvm.MethodName)) ∈ lw_all := lw_g (lw_at lw_m3 11 rfl) rfl
theorem q654 : (Jvm.Cond.fieldLinkNest "OutwardDoors$Castle" (52 : Nat) "OutwardDoors$Door" "one" "I" "OutwardDoors") ∈ lw_tbl := lw_at lw_m3 25 rfl
theorem q656 : (Jvm.Cond.fieldLinkNest "OutwardDoors$Castle" (55 : Nat) "OutwardDoors$Door" "other" "I" "OutwardDoors") ∈ lw_tbl := lw_at lw_m3 27 rfl
theorem q658 : (Jvm.Cond.fieldLinkNest "OutwardDoors$Castle" (58 : Nat) "OutwardDoors$Door" "isWindow" "Z" "OutwardDoors") ∈ lw_tbl := lw_at lw_m3 29 rfl
theorem q704 : (Jvm.Cond.selects "OutwardDoors$Castle" ({ cls := "java/lang/Object", name := "getClass", desc := "()Ljava/lang/Class;" } : Jvm.MethodName) ({ cls := "java/lang/Object", name := "getClass", desc := "()Ljava/lang/Class;" } : Jvm.MethodName)) ∈ lw_all := lw_g (lw_at lw_m3 75 rfl) rfl
theorem q740 : (Jvm.Cond.instanceMethod ({ cls := "OutwardDoors$Castle", name := "many", desc := "()I" } : Jvm.MethodName)) ∈ lw_all := lw_g (lw_at lw_m3 111 rfl) rfl
theorem q741 : (Jvm.Cond.selects "OutwardDoors$Castle" ({ cls := "OutwardDoors$Castle", name := "many", desc := "()I" } : Jvm.MethodName) ({ cls := "OutwardDoors$Castle", name := "many", desc := "()I" } : Jvm.MethodName)) ∈ lw_all := lw_g (lw_at lw_m3 112 rfl) rfl
theorem q742 : (Jvm.Cond.code ({ cls := "OutwardDoors$Castle", name := "many", desc := "()I" } : Jvm.MethodName) prog_4_method_2_code (1 : Nat) (Option.some Jvm.ClassFile.FieldType.int)) ∈ lw_all := lw_g (lw_at lw_m3 113 rfl) rfl
theorem q972 : (Jvm.Cond.instanceMethod ({ cls := "OutwardDoors$Castle", name := "isOpen", desc := "(II)Z" } : Jvm.MethodName)) ∈ lw_all := lw_g (lw_at lw_m4 103 rfl) rfl
theorem q973 : (Jvm.Cond.selects "OutwardDoors$Castle" ({ cls := "OutwardDoors$Castle", name := "isOpen", desc := "(II)Z" } : Jvm.MethodName) ({ cls := "OutwardDoors$Castle", name := "isOpen", desc := "(II)Z" } : Jvm.MethodName)) ∈ lw_all := lw_g (lw_at lw_m4 104 rfl) rfl
theorem q974 : (Jvm.Cond.code ({ cls := "OutwardDoors$Castle", name := "isOpen", desc := "(II)Z" } : Jvm.MethodName) prog_4_method_5_code (4 : Nat) (Option.some Jvm.ClassFile.FieldType.boolean)) ∈ lw_all := lw_g (lw_at lw_m4 105 rfl) rfl
theorem q975 : (Jvm.Cond.methodLink "OutwardDoors$Castle" (62 : Nat) ({ cls := "OutwardDoors$Castle", name := "isNight", desc := "(I)Z" } : Jvm.MethodName)) ∈ lw_all := lw_g (lw_at lw_m4 106 rfl) rfl
theorem q976 : (Jvm.Cond.instanceMethod ({ cls := "OutwardDoors$Castle", name := "isNight", desc := "(I)Z" } : Jvm.MethodName)) ∈ lw_all := lw_g (lw_at lw_m4 107 rfl) rfl
theorem q977 : (Jvm.Cond.selects "OutwardDoors$Castle" ({ cls := "OutwardDoors$Castle", name := "isNight", desc := "(I)Z" } : Jvm.MethodName) ({ cls := "OutwardDoors$Castle", name := "isNight", desc := "(I)Z" } : Jvm.MethodName)) ∈ lw_all := lw_g (lw_at lw_m4 108 rfl) rfl
theorem q978 : (Jvm.Cond.code ({ cls := "OutwardDoors$Castle", name := "isNight", desc := "(I)Z" } : Jvm.MethodName) prog_4_method_3_code (2 : Nat) (Option.some Jvm.ClassFile.FieldType.boolean)) ∈ lw_all := lw_g (lw_at lw_m4 109 rfl) rfl
theorem q979 : (Jvm.Cond.methodLinkNest "OutwardDoors$Castle" (38 : Nat) ({ cls := "OutwardDoors", name := "in", desc := "(JJJ)Z" } : Jvm.MethodName) "OutwardDoors") ∈ lw_tbl := lw_at lw_m4 110 rfl
theorem q981 : (Jvm.Cond.instanceMethod ({ cls := "OutwardDoors$Castle", name := "inner", desc := "(I)I" } : Jvm.MethodName)) ∈ lw_all := lw_g (lw_at lw_m4 112 rfl) rfl
theorem q982 : (Jvm.Cond.selects "OutwardDoors$Castle" ({ cls := "OutwardDoors$Castle", name := "inner", desc := "(I)I" } : Jvm.MethodName) ({ cls := "OutwardDoors$Castle", name := "inner", desc := "(I)I" } : Jvm.MethodName)) ∈ lw_all := lw_g (lw_at lw_m4 113 rfl) rfl
theorem q983 : (Jvm.Cond.code ({ cls := "OutwardDoors$Castle", name := "inner", desc := "(I)I" } : Jvm.MethodName) prog_4_method_6_code (3 : Nat) (Option.some Jvm.ClassFile.FieldType.int)) ∈ lw_all := lw_g (lw_at lw_m4 114 rfl) rfl
theorem q984 : (Jvm.Cond.methodLink "OutwardDoors$Castle" (66 : Nat) ({ cls := "java/lang/Math", name := "min", desc := "(II)I" } : Jvm.MethodName)) ∈ lw_all := lw_g (lw_at lw_m4 115 rfl) rfl
theorem q986 : (Jvm.Cond.instanceMethod ({ cls := "OutwardDoors$Castle", name := "outer", desc := "(I)I" } : Jvm.MethodName)) ∈ lw_all := lw_g (lw_at lw_m4 117 rfl) rfl
theorem q987 : (Jvm.Cond.selects "OutwardDoors$Castle" ({ cls := "OutwardDoors$Castle", name := "outer", desc := "(I)I" } : Jvm.MethodName) ({ cls := "OutwardDoors$Castle", name := "outer", desc := "(I)I" } : Jvm.MethodName)) ∈ lw_all := lw_g (lw_at lw_m4 118 rfl) rfl
theorem q988 : (Jvm.Cond.code ({ cls := "OutwardDoors$Castle", name := "outer", desc := "(I)I" } : Jvm.MethodName) prog_4_method_7_code (3 : Nat) (Option.some Jvm.ClassFile.FieldType.int)) ∈ lw_all := lw_g (lw_at lw_m4 119 rfl) rfl
theorem q989 : (Jvm.Cond.methodLink "OutwardDoors$Castle" (72 : Nat) ({ cls := "OutwardDoors$Castle", name := "inner", desc := "(I)I" } : Jvm.MethodName)) ∈ lw_all := lw_g (lw_at lw_m4 120 rfl) rfl
theorem q996 : (Jvm.Cond.instanceMethod ({ cls := "OutwardDoors$Castle", name := "between", desc := "(III)I" } : Jvm.MethodName)) ∈ lw_all := lw_g (lw_at lw_m4 127 rfl) rfl
theorem q997 : (Jvm.Cond.selects "OutwardDoors$Castle" ({ cls := "OutwardDoors$Castle", name := "between", desc := "(III)I" } : Jvm.MethodName) ({ cls := "OutwardDoors$Castle", name := "between", desc := "(III)I" } : Jvm.MethodName)) ∈ lw_all := lw_g (lw_at lw_m4 128 rfl) rfl
theorem q998 : (Jvm.Cond.code ({ cls := "OutwardDoors$Castle", name := "between", desc := "(III)I" } : Jvm.MethodName) prog_4_method_8_code (5 : Nat) (Option.some Jvm.ClassFile.FieldType.int)) ∈ lw_all := lw_g (lw_at lw_m4 129 rfl) rfl
theorem q999 : (Jvm.Cond.methodLink "OutwardDoors$Castle" (76 : Nat) ({ cls := "OutwardDoors$Castle", name := "isOpen", desc := "(II)Z" } : Jvm.MethodName)) ∈ lw_all := lw_g (lw_at lw_m4 130 rfl) rfl
theorem q1112 : (Jvm.Cond.instanceMethod ({ cls := "OutwardDoors$Castle", name := "firstOut", desc := "(II)I" } : Jvm.MethodName)) ∈ lw_all := lw_g (lw_at lw_m5 3 rfl) rfl
theorem q1113 : (Jvm.Cond.selects "OutwardDoors$Castle" ({ cls := "OutwardDoors$Castle", name := "firstOut", desc := "(II)I" } : Jvm.MethodName) ({ cls := "OutwardDoors$Castle", name := "firstOut", desc := "(II)I" } : Jvm.MethodName)) ∈ lw_all := lw_g (lw_at lw_m5 4 rfl) rfl
theorem q1114 : (Jvm.Cond.code ({ cls := "OutwardDoors$Castle", name := "firstOut", desc := "(II)I" } : Jvm.MethodName) prog_4_method_9_code (4 : Nat) (Option.some Jvm.ClassFile.FieldType.int)) ∈ lw_all := lw_g (lw_at lw_m5 5 rfl) rfl
theorem q2007 : (Jvm.Cond.castable "OutwardDoors$Castle" "java/lang/Object") ∈ lw_tbl := lw_at lw_m8 178 rfl
theorem in_X1 : ∀ w ∈ wsX10, w ∈ lw_all := lw_in wsX10 [243, 245, 247, 249, 251, 253] (by decide +kernel) (by decide +kernel)

/-! OutwardDoors$Plain -/
set_option maxRecDepth 100000
def RX10 : String := "OutwardDoors$Plain"
def TX10 : u_T := fun k => match k with
  | _ => ("OutwardDoors$Plain", "number", "I", true)
def tyX10 : Nat → FieldType := fun k => match k with
  | _ => .int
abbrev wsX100 : List Cond := u_ws RX10 TX10 1
theorem nmX10 : ∀ a, a < 1 → ∀ b, b < 1 → a ≠ b → (TX10 a).2.1 ≠ (TX10 b).2.1 := by decide +kernel
theorem tyX10_ok : ∀ k, k < 1 → parseFieldDescriptor (TX10 k).2.2.1 = some (tyX10 k) := by decide +kernel
abbrev cX10_init : ByteArray := prog_13_method_1_code
def yX10_init : MethodName := ⟨RX10, "<init>", "(I)V"⟩
def dkwX10_init_0 : List UInt8 := [42, 183, 0, 1, 42, 27, 181, 0, 7, 177]
abbrev dktX10_init_0 : List UInt8 := dkwX10_init_0 ++ []
theorem dksX10_init_0 : cX10_init.data.toList.drop 0 = dktX10_init_0 := by decide +kernel
theorem dX10_init_0 : decode cX10_init 0 = .ok (.aload_n 0, 1) := dk_42 (dk_at dksX10_init_0 0 rfl rfl)
theorem dX10_init_1 : decode cX10_init 1 = .ok (.invokespecial 1, 3) := dk_183 0 1 (dk_at dksX10_init_0 1 rfl rfl)
theorem dX10_init_4 : decode cX10_init 4 = .ok (.aload_n 0, 1) := dk_42 (dk_at dksX10_init_0 4 rfl rfl)
theorem dX10_init_5 : decode cX10_init 5 = .ok (.iload_n 1, 1) := dk_27 (dk_at dksX10_init_0 5 rfl rfl)
theorem dX10_init_6 : decode cX10_init 6 = .ok (.putfield 7, 3) := dk_181 0 7 (dk_at dksX10_init_0 6 rfl rfl)
theorem dX10_init_9 : decode cX10_init 9 = .ok (.return_, 1) := dk_177 (dk_at dksX10_init_0 9 rfl rfl)
abbrev cX10_of : ByteArray := prog_13_method_2_code
def yX10_of : MethodName := ⟨RX10, "of", "([J)J"⟩
def dkwX10_of_0 : List UInt8 := [42, 180, 0, 7, 133, 173]
abbrev dktX10_of_0 : List UInt8 := dkwX10_of_0 ++ []
theorem dksX10_of_0 : cX10_of.data.toList.drop 0 = dktX10_of_0 := by decide +kernel
theorem dX10_of_0 : decode cX10_of 0 = .ok (.aload_n 0, 1) := dk_42 (dk_at dksX10_of_0 0 rfl rfl)
theorem dX10_of_1 : decode cX10_of 1 = .ok (.getfield 7, 3) := dk_180 0 7 (dk_at dksX10_of_0 1 rfl rfl)
theorem dX10_of_4 : decode cX10_of 4 = .ok (.i2l, 1) := dk_133 (dk_at dksX10_of_0 4 rfl rfl)
theorem dX10_of_5 : decode cX10_of 5 = .ok (.lreturn, 1) := dk_173 (dk_at dksX10_of_0 5 rfl rfl)
theorem q175 : (Jvm.Cond.initialized "OutwardDoors$Plain") ∈ lw_all := lw_g (lw_at lw_m1 26 rfl) rfl
theorem q712 : (Jvm.Cond.selects "OutwardDoors$Plain" ({ cls := "java/lang/Object", name := "getClass", desc := "()Ljava/lang/Class;" } : Jvm.MethodName) ({ cls := "java/lang/Object", name := "getClass", desc := "()Ljava/lang/Class;" } : Jvm.MethodName)) ∈ lw_all := lw_g (lw_at lw_m3 83 rfl) rfl
theorem q818 : (Jvm.Cond.instantiable "OutwardDoors$Plain" (1 : Nat)) ∈ lw_all := lw_g (lw_at lw_m3 189 rfl) rfl
theorem q821 : (Jvm.Cond.instanceMethod ({ cls := "OutwardDoors$Plain", name := "<init>", desc := "(I)V" } : Jvm.MethodName)) ∈ lw_all := lw_g (lw_at lw_m3 192 rfl) rfl
theorem q822 : (Jvm.Cond.code ({ cls := "OutwardDoors$Plain", name := "<init>", desc := "(I)V" } : Jvm.MethodName) prog_13_method_1_code (2 : Nat) (Option.none : Option Jvm.ClassFile.FieldType)) ∈ lw_all := lw_g (lw_at lw_m3 193 rfl) rfl
theorem q823 : (Jvm.Cond.methodLinkNest "OutwardDoors$Plain" (1 : Nat) ({ cls := "OutwardDoors$Value", name := "<init>", desc := "()V" } : Jvm.MethodName) "OutwardDoors") ∈ lw_tbl := lw_at lw_m3 194 rfl
theorem q827 : (Jvm.Cond.fieldLink "OutwardDoors$Plain" (7 : Nat) "OutwardDoors$Plain" "number" "I") ∈ lw_all := lw_g (lw_at lw_m3 198 rfl) rfl
theorem q828 : (Jvm.Cond.laysFinal "OutwardDoors$Plain" "OutwardDoors$Plain" "number" "I") ∈ lw_all := lw_g (lw_at lw_m3 199 rfl) rfl
theorem q829 : (Jvm.Cond.soleField "OutwardDoors$Plain" "number") ∈ lw_all := lw_g (lw_at lw_m3 200 rfl) rfl
theorem q830 : (Jvm.Cond.superclass "OutwardDoors$Plain" "OutwardDoors$Value") ∈ lw_all := lw_g (lw_at lw_m3 201 rfl) rfl
theorem q1099 : (Jvm.Cond.instanceMethod ({ cls := "OutwardDoors$Plain", name := "of", desc := "([J)J" } : Jvm.MethodName)) ∈ lw_all := lw_g (lw_at lw_m4 230 rfl) rfl
theorem q1100 : (Jvm.Cond.code ({ cls := "OutwardDoors$Plain", name := "of", desc := "([J)J" } : Jvm.MethodName) prog_13_method_2_code (2 : Nat) (Option.some Jvm.ClassFile.FieldType.long)) ∈ lw_all := lw_g (lw_at lw_m4 231 rfl) rfl
theorem q1101 : (Jvm.Cond.selects "OutwardDoors$Plain" ({ cls := "OutwardDoors$Value", name := "of", desc := "([J)J" } : Jvm.MethodName) ({ cls := "OutwardDoors$Plain", name := "of", desc := "([J)J" } : Jvm.MethodName)) ∈ lw_all := lw_g (lw_at lw_m4 232 rfl) rfl
theorem q2015 : (Jvm.Cond.castable "OutwardDoors$Plain" "java/lang/Object") ∈ lw_tbl := lw_at lw_m8 186 rfl
theorem in_X10 : ∀ w ∈ wsX100, w ∈ lw_all := lw_in wsX100 [828] (by decide +kernel) (by decide +kernel)

/-! OutwardDoors$Asked -/
set_option maxRecDepth 100000
def RX11 : String := "OutwardDoors$Asked"
def TX11 : u_T := fun k => match k with
  | _ => ("OutwardDoors$Asked", "word", "I", true)
def tyX11 : Nat → FieldType := fun k => match k with
  | _ => .int
abbrev wsX110 : List Cond := u_ws RX11 TX11 1
theorem nmX11 : ∀ a, a < 1 → ∀ b, b < 1 → a ≠ b → (TX11 a).2.1 ≠ (TX11 b).2.1 := by decide +kernel
theorem tyX11_ok : ∀ k, k < 1 → parseFieldDescriptor (TX11 k).2.2.1 = some (tyX11 k) := by decide +kernel
abbrev cX11_init : ByteArray := prog_2_method_1_code
def yX11_init : MethodName := ⟨RX11, "<init>", "(I)V"⟩
def dkwX11_init_0 : List UInt8 := [42, 183, 0, 1, 42, 27, 181, 0, 7, 177]
abbrev dktX11_init_0 : List UInt8 := dkwX11_init_0 ++ []
theorem dksX11_init_0 : cX11_init.data.toList.drop 0 = dktX11_init_0 := by decide +kernel
theorem dX11_init_0 : decode cX11_init 0 = .ok (.aload_n 0, 1) := dk_42 (dk_at dksX11_init_0 0 rfl rfl)
theorem dX11_init_1 : decode cX11_init 1 = .ok (.invokespecial 1, 3) := dk_183 0 1 (dk_at dksX11_init_0 1 rfl rfl)
theorem dX11_init_4 : decode cX11_init 4 = .ok (.aload_n 0, 1) := dk_42 (dk_at dksX11_init_0 4 rfl rfl)
theorem dX11_init_5 : decode cX11_init 5 = .ok (.iload_n 1, 1) := dk_27 (dk_at dksX11_init_0 5 rfl rfl)
theorem dX11_init_6 : decode cX11_init 6 = .ok (.putfield 7, 3) := dk_181 0 7 (dk_at dksX11_init_0 6 rfl rfl)
theorem dX11_init_9 : decode cX11_init 9 = .ok (.return_, 1) := dk_177 (dk_at dksX11_init_0 9 rfl rfl)
abbrev cX11_of : ByteArray := prog_2_method_2_code
def yX11_of : MethodName := ⟨RX11, "of", "([J)J"⟩
def dkwX11_of_0 : List UInt8 := [43, 42, 180, 0, 7, 47, 173]
abbrev dktX11_of_0 : List UInt8 := dkwX11_of_0 ++ []
theorem dksX11_of_0 : cX11_of.data.toList.drop 0 = dktX11_of_0 := by decide +kernel
theorem dX11_of_0 : decode cX11_of 0 = .ok (.aload_n 1, 1) := dk_43 (dk_at dksX11_of_0 0 rfl rfl)
theorem dX11_of_1 : decode cX11_of 1 = .ok (.aload_n 0, 1) := dk_42 (dk_at dksX11_of_0 1 rfl rfl)
theorem dX11_of_2 : decode cX11_of 2 = .ok (.getfield 7, 3) := dk_180 0 7 (dk_at dksX11_of_0 2 rfl rfl)
theorem dX11_of_5 : decode cX11_of 5 = .ok (.laload, 1) := dk_47 (dk_at dksX11_of_0 5 rfl rfl)
theorem dX11_of_6 : decode cX11_of 6 = .ok (.lreturn, 1) := dk_173 (dk_at dksX11_of_0 6 rfl rfl)
theorem q176 : (Jvm.Cond.initialized "OutwardDoors$Asked") ∈ lw_all := lw_g (lw_at lw_m1 27 rfl) rfl
theorem q702 : (Jvm.Cond.selects "OutwardDoors$Asked" ({ cls := "java/lang/Object", name := "getClass", desc := "()Ljava/lang/Class;" } : Jvm.MethodName) ({ cls := "java/lang/Object", name := "getClass", desc := "()Ljava/lang/Class;" } : Jvm.MethodName)) ∈ lw_all := lw_g (lw_at lw_m3 73 rfl) rfl
theorem q836 : (Jvm.Cond.instantiable "OutwardDoors$Asked" (1 : Nat)) ∈ lw_all := lw_g (lw_at lw_m3 207 rfl) rfl
theorem q838 : (Jvm.Cond.instanceMethod ({ cls := "OutwardDoors$Asked", name := "<init>", desc := "(I)V" } : Jvm.MethodName)) ∈ lw_all := lw_g (lw_at lw_m3 209 rfl) rfl
theorem q839 : (Jvm.Cond.code ({ cls := "OutwardDoors$Asked", name := "<init>", desc := "(I)V" } : Jvm.MethodName) prog_2_method_1_code (2 : Nat) (Option.none : Option Jvm.ClassFile.FieldType)) ∈ lw_all := lw_g (lw_at lw_m3 210 rfl) rfl
theorem q840 : (Jvm.Cond.methodLinkNest "OutwardDoors$Asked" (1 : Nat) ({ cls := "OutwardDoors$Value", name := "<init>", desc := "()V" } : Jvm.MethodName) "OutwardDoors") ∈ lw_tbl := lw_at lw_m3 211 rfl
theorem q841 : (Jvm.Cond.fieldLink "OutwardDoors$Asked" (7 : Nat) "OutwardDoors$Asked" "word" "I") ∈ lw_all := lw_g (lw_at lw_m3 212 rfl) rfl
theorem q842 : (Jvm.Cond.laysFinal "OutwardDoors$Asked" "OutwardDoors$Asked" "word" "I") ∈ lw_all := lw_g (lw_at lw_m3 213 rfl) rfl
theorem q843 : (Jvm.Cond.soleField "OutwardDoors$Asked" "word") ∈ lw_all := lw_g (lw_at lw_m3 214 rfl) rfl
theorem q844 : (Jvm.Cond.superclass "OutwardDoors$Asked" "OutwardDoors$Value") ∈ lw_all := lw_g (lw_at lw_m3 215 rfl) rfl
theorem q1092 : (Jvm.Cond.selects "OutwardDoors$Asked" ({ cls := "OutwardDoors$Value", name := "of", desc := "([J)J" } : Jvm.MethodName) ({ cls := "OutwardDoors$Asked", name := "of", desc := "([J)J" } : Jvm.MethodName)) ∈ lw_all := lw_g (lw_at lw_m4 223 rfl) rfl
theorem q1093 : (Jvm.Cond.instanceMethod ({ cls := "OutwardDoors$Asked", name := "of", desc := "([J)J" } : Jvm.MethodName)) ∈ lw_all := lw_g (lw_at lw_m4 224 rfl) rfl
theorem q1094 : (Jvm.Cond.code ({ cls := "OutwardDoors$Asked", name := "of", desc := "([J)J" } : Jvm.MethodName) prog_2_method_2_code (2 : Nat) (Option.some Jvm.ClassFile.FieldType.long)) ∈ lw_all := lw_g (lw_at lw_m4 225 rfl) rfl
theorem q2016 : (Jvm.Cond.castable "OutwardDoors$Asked" "java/lang/Object") ∈ lw_tbl := lw_at lw_m8 187 rfl
theorem in_X11 : ∀ w ∈ wsX110, w ∈ lw_all := lw_in wsX110 [842] (by decide +kernel) (by decide +kernel)

/-! OutwardDoors$Joined -/
set_option maxRecDepth 100000
def RX12 : String := "OutwardDoors$Joined"
def TX12 : u_T := fun k => match k with
  | 0 => ("OutwardDoors$Joined", "a", "LOutwardDoors$Value;", true)
  | 1 => ("OutwardDoors$Joined", "b", "LOutwardDoors$Value;", true)
  | _ => ("OutwardDoors$Joined", "sign", "I", true)
def tyX12 : Nat → FieldType := fun k => match k with
  | 0 => .object "OutwardDoors$Value"
  | 1 => .object "OutwardDoors$Value"
  | _ => .int
abbrev wsX120 : List Cond := u_ws RX12 TX12 3
theorem nmX12 : ∀ a, a < 3 → ∀ b, b < 3 → a ≠ b → (TX12 a).2.1 ≠ (TX12 b).2.1 := by decide +kernel
theorem tyX12_ok : ∀ k, k < 3 → parseFieldDescriptor (TX12 k).2.2.1 = some (tyX12 k) := by decide +kernel
abbrev cX12_init : ByteArray := prog_9_method_1_code
def yX12_init : MethodName := ⟨RX12, "<init>", "(LOutwardDoors$Value;LOutwardDoors$Value;I)V"⟩
def dkwX12_init_0 : List UInt8 := [42, 183, 0, 1, 42, 43, 181, 0, 7, 42, 44, 181, 0, 13, 42, 29, 181, 0, 16, 177]
abbrev dktX12_init_0 : List UInt8 := dkwX12_init_0 ++ []
theorem dksX12_init_0 : cX12_init.data.toList.drop 0 = dktX12_init_0 := by decide +kernel
theorem dX12_init_0 : decode cX12_init 0 = .ok (.aload_n 0, 1) := dk_42 (dk_at dksX12_init_0 0 rfl rfl)
theorem dX12_init_1 : decode cX12_init 1 = .ok (.invokespecial 1, 3) := dk_183 0 1 (dk_at dksX12_init_0 1 rfl rfl)
theorem dX12_init_4 : decode cX12_init 4 = .ok (.aload_n 0, 1) := dk_42 (dk_at dksX12_init_0 4 rfl rfl)
theorem dX12_init_5 : decode cX12_init 5 = .ok (.aload_n 1, 1) := dk_43 (dk_at dksX12_init_0 5 rfl rfl)
theorem dX12_init_6 : decode cX12_init 6 = .ok (.putfield 7, 3) := dk_181 0 7 (dk_at dksX12_init_0 6 rfl rfl)
theorem dX12_init_9 : decode cX12_init 9 = .ok (.aload_n 0, 1) := dk_42 (dk_at dksX12_init_0 9 rfl rfl)
theorem dX12_init_10 : decode cX12_init 10 = .ok (.aload_n 2, 1) := dk_44 (dk_at dksX12_init_0 10 rfl rfl)
theorem dX12_init_11 : decode cX12_init 11 = .ok (.putfield 13, 3) := dk_181 0 13 (dk_at dksX12_init_0 11 rfl rfl)
theorem dX12_init_14 : decode cX12_init 14 = .ok (.aload_n 0, 1) := dk_42 (dk_at dksX12_init_0 14 rfl rfl)
theorem dX12_init_15 : decode cX12_init 15 = .ok (.iload_n 3, 1) := dk_29 (dk_at dksX12_init_0 15 rfl rfl)
theorem dX12_init_16 : decode cX12_init 16 = .ok (.putfield 16, 3) := dk_181 0 16 (dk_at dksX12_init_0 16 rfl rfl)
theorem dX12_init_19 : decode cX12_init 19 = .ok (.return_, 1) := dk_177 (dk_at dksX12_init_0 19 rfl rfl)
abbrev cX12_of : ByteArray := prog_9_method_2_code
def yX12_of : MethodName := ⟨RX12, "of", "([J)J"⟩
def dkwX12_of_4 : List UInt8 := [22, 4, 113, 173]
abbrev dktX12_of_4 : List UInt8 := dkwX12_of_4 ++ []
def dkwX12_of_3 : List UInt8 := [154, 0, 7, 9, 167, 0, 23, 42, 180, 0, 16, 16, 47, 160, 0, 10, 32, 22, 4, 109, 167, 0, 7, 32]
abbrev dktX12_of_3 : List UInt8 := dkwX12_of_3 ++ dktX12_of_4
def dkwX12_of_2 : List UInt8 := [101, 167, 0, 50, 42, 180, 0, 16, 16, 42, 160, 0, 10, 32, 22, 4, 105, 167, 0, 34, 22, 4, 9, 148]
abbrev dktX12_of_2 : List UInt8 := dkwX12_of_2 ++ dktX12_of_3
def dkwX12_of_1 : List UInt8 := [16, 43, 160, 0, 10, 32, 22, 4, 97, 167, 0, 66, 42, 180, 0, 16, 16, 45, 160, 0, 10, 32, 22, 4]
abbrev dktX12_of_1 : List UInt8 := dkwX12_of_1 ++ dktX12_of_2
def dkwX12_of_0 : List UInt8 := [42, 180, 0, 7, 43, 182, 0, 20, 65, 42, 180, 0, 13, 43, 182, 0, 20, 55, 4, 42, 180, 0, 16]
abbrev dktX12_of_0 : List UInt8 := dkwX12_of_0 ++ dktX12_of_1
theorem dksX12_of_0 : cX12_of.data.toList.drop 0 = dktX12_of_0 := by decide +kernel
theorem dksX12_of_1 : cX12_of.data.toList.drop 23 = dktX12_of_1 := dk_seg dksX12_of_0 23 rfl rfl
theorem dksX12_of_2 : cX12_of.data.toList.drop 47 = dktX12_of_2 := dk_seg dksX12_of_1 24 rfl rfl
theorem dksX12_of_3 : cX12_of.data.toList.drop 71 = dktX12_of_3 := dk_seg dksX12_of_2 24 rfl rfl
theorem dksX12_of_4 : cX12_of.data.toList.drop 95 = dktX12_of_4 := dk_seg dksX12_of_3 24 rfl rfl
theorem dX12_of_0 : decode cX12_of 0 = .ok (.aload_n 0, 1) := dk_42 (dk_at dksX12_of_0 0 rfl rfl)
theorem dX12_of_1 : decode cX12_of 1 = .ok (.getfield 7, 3) := dk_180 0 7 (dk_at dksX12_of_0 1 rfl rfl)
theorem dX12_of_4 : decode cX12_of 4 = .ok (.aload_n 1, 1) := dk_43 (dk_at dksX12_of_0 4 rfl rfl)
theorem dX12_of_5 : decode cX12_of 5 = .ok (.invokevirtual 20, 3) := dk_182 0 20 (dk_at dksX12_of_0 5 rfl rfl)
theorem dX12_of_8 : decode cX12_of 8 = .ok (.lstore_n 2, 1) := dk_65 (dk_at dksX12_of_0 8 rfl rfl)
theorem dX12_of_9 : decode cX12_of 9 = .ok (.aload_n 0, 1) := dk_42 (dk_at dksX12_of_0 9 rfl rfl)
theorem dX12_of_10 : decode cX12_of 10 = .ok (.getfield 13, 3) := dk_180 0 13 (dk_at dksX12_of_0 10 rfl rfl)
theorem dX12_of_13 : decode cX12_of 13 = .ok (.aload_n 1, 1) := dk_43 (dk_at dksX12_of_0 13 rfl rfl)
theorem dX12_of_14 : decode cX12_of 14 = .ok (.invokevirtual 20, 3) := dk_182 0 20 (dk_at dksX12_of_0 14 rfl rfl)
theorem dX12_of_17 : decode cX12_of 17 = .ok (.lstore 4, 2) := dk_55 4 (dk_at dksX12_of_0 17 rfl rfl)
theorem dX12_of_19 : decode cX12_of 19 = .ok (.aload_n 0, 1) := dk_42 (dk_at dksX12_of_0 19 rfl rfl)
theorem dX12_of_20 : decode cX12_of 20 = .ok (.getfield 16, 3) := dk_180 0 16 (dk_at dksX12_of_0 20 rfl rfl)
theorem dX12_of_23 : decode cX12_of 23 = .ok (.bipush 43, 2) := dk_16 43 (dk_at dksX12_of_1 0 rfl rfl)
theorem dX12_of_25 : decode cX12_of 25 = .ok (.if_icmp .ne 10, 3) := dk_160 0 10 (dk_at dksX12_of_1 2 rfl rfl)
theorem dX12_of_28 : decode cX12_of 28 = .ok (.lload_n 2, 1) := dk_32 (dk_at dksX12_of_1 5 rfl rfl)
theorem dX12_of_29 : decode cX12_of 29 = .ok (.lload 4, 2) := dk_22 4 (dk_at dksX12_of_1 6 rfl rfl)
theorem dX12_of_31 : decode cX12_of 31 = .ok (.ladd, 1) := dk_97 (dk_at dksX12_of_1 8 rfl rfl)
theorem dX12_of_32 : decode cX12_of 32 = .ok (.goto 66, 3) := dk_167 0 66 (dk_at dksX12_of_1 9 rfl rfl)
theorem dX12_of_35 : decode cX12_of 35 = .ok (.aload_n 0, 1) := dk_42 (dk_at dksX12_of_1 12 rfl rfl)
theorem dX12_of_36 : decode cX12_of 36 = .ok (.getfield 16, 3) := dk_180 0 16 (dk_at dksX12_of_1 13 rfl rfl)
theorem dX12_of_39 : decode cX12_of 39 = .ok (.bipush 45, 2) := dk_16 45 (dk_at dksX12_of_1 16 rfl rfl)
theorem dX12_of_41 : decode cX12_of 41 = .ok (.if_icmp .ne 10, 3) := dk_160 0 10 (dk_at dksX12_of_1 18 rfl rfl)
theorem dX12_of_44 : decode cX12_of 44 = .ok (.lload_n 2, 1) := dk_32 (dk_at dksX12_of_1 21 rfl rfl)
theorem dX12_of_45 : decode cX12_of 45 = .ok (.lload 4, 2) := dk_22 4 (dk_at dksX12_of_1 22 rfl rfl)
theorem dX12_of_47 : decode cX12_of 47 = .ok (.lsub, 1) := dk_101 (dk_at dksX12_of_2 0 rfl rfl)
theorem dX12_of_48 : decode cX12_of 48 = .ok (.goto 50, 3) := dk_167 0 50 (dk_at dksX12_of_2 1 rfl rfl)
theorem dX12_of_51 : decode cX12_of 51 = .ok (.aload_n 0, 1) := dk_42 (dk_at dksX12_of_2 4 rfl rfl)
theorem dX12_of_52 : decode cX12_of 52 = .ok (.getfield 16, 3) := dk_180 0 16 (dk_at dksX12_of_2 5 rfl rfl)
theorem dX12_of_55 : decode cX12_of 55 = .ok (.bipush 42, 2) := dk_16 42 (dk_at dksX12_of_2 8 rfl rfl)
theorem dX12_of_57 : decode cX12_of 57 = .ok (.if_icmp .ne 10, 3) := dk_160 0 10 (dk_at dksX12_of_2 10 rfl rfl)
theorem dX12_of_60 : decode cX12_of 60 = .ok (.lload_n 2, 1) := dk_32 (dk_at dksX12_of_2 13 rfl rfl)
theorem dX12_of_61 : decode cX12_of 61 = .ok (.lload 4, 2) := dk_22 4 (dk_at dksX12_of_2 14 rfl rfl)
theorem dX12_of_63 : decode cX12_of 63 = .ok (.lmul, 1) := dk_105 (dk_at dksX12_of_2 16 rfl rfl)
theorem dX12_of_64 : decode cX12_of 64 = .ok (.goto 34, 3) := dk_167 0 34 (dk_at dksX12_of_2 17 rfl rfl)
theorem dX12_of_67 : decode cX12_of 67 = .ok (.lload 4, 2) := dk_22 4 (dk_at dksX12_of_2 20 rfl rfl)
theorem dX12_of_69 : decode cX12_of 69 = .ok (.lconst 0, 1) := dk_9 (dk_at dksX12_of_2 22 rfl rfl)
theorem dX12_of_70 : decode cX12_of 70 = .ok (.lcmp, 1) := dk_148 (dk_at dksX12_of_2 23 rfl rfl)
theorem dX12_of_71 : decode cX12_of 71 = .ok (.ifCond .ne 7, 3) := dk_154 0 7 (dk_at dksX12_of_3 0 rfl rfl)
theorem dX12_of_74 : decode cX12_of 74 = .ok (.lconst 0, 1) := dk_9 (dk_at dksX12_of_3 3 rfl rfl)
theorem dX12_of_75 : decode cX12_of 75 = .ok (.goto 23, 3) := dk_167 0 23 (dk_at dksX12_of_3 4 rfl rfl)
theorem dX12_of_78 : decode cX12_of 78 = .ok (.aload_n 0, 1) := dk_42 (dk_at dksX12_of_3 7 rfl rfl)
theorem dX12_of_79 : decode cX12_of 79 = .ok (.getfield 16, 3) := dk_180 0 16 (dk_at dksX12_of_3 8 rfl rfl)
theorem dX12_of_82 : decode cX12_of 82 = .ok (.bipush 47, 2) := dk_16 47 (dk_at dksX12_of_3 11 rfl rfl)
theorem dX12_of_84 : decode cX12_of 84 = .ok (.if_icmp .ne 10, 3) := dk_160 0 10 (dk_at dksX12_of_3 13 rfl rfl)
theorem dX12_of_87 : decode cX12_of 87 = .ok (.lload_n 2, 1) := dk_32 (dk_at dksX12_of_3 16 rfl rfl)
theorem dX12_of_88 : decode cX12_of 88 = .ok (.lload 4, 2) := dk_22 4 (dk_at dksX12_of_3 17 rfl rfl)
theorem dX12_of_90 : decode cX12_of 90 = .ok (.ldiv, 1) := dk_109 (dk_at dksX12_of_3 19 rfl rfl)
theorem dX12_of_91 : decode cX12_of 91 = .ok (.goto 7, 3) := dk_167 0 7 (dk_at dksX12_of_3 20 rfl rfl)
theorem dX12_of_94 : decode cX12_of 94 = .ok (.lload_n 2, 1) := dk_32 (dk_at dksX12_of_3 23 rfl rfl)
theorem dX12_of_95 : decode cX12_of 95 = .ok (.lload 4, 2) := dk_22 4 (dk_at dksX12_of_4 0 rfl rfl)
theorem dX12_of_97 : decode cX12_of 97 = .ok (.lrem, 1) := dk_113 (dk_at dksX12_of_4 2 rfl rfl)
theorem dX12_of_98 : decode cX12_of 98 = .ok (.lreturn, 1) := dk_173 (dk_at dksX12_of_4 3 rfl rfl)
theorem q177 : (Jvm.Cond.initialized "OutwardDoors$Joined") ∈ lw_all := lw_g (lw_at lw_m1 28 rfl) rfl
theorem q708 : (Jvm.Cond.selects "OutwardDoors$Joined" ({ cls := "java/lang/Object", name := "getClass", desc := "()Ljava/lang/Class;" } : Jvm.MethodName) ({ cls := "java/lang/Object", name := "getClass", desc := "()Ljava/lang/Class;" } : Jvm.MethodName)) ∈ lw_all := lw_g (lw_at lw_m3 79 rfl) rfl
theorem q846 : (Jvm.Cond.instantiable "OutwardDoors$Joined" (3 : Nat)) ∈ lw_all := lw_g (lw_at lw_m3 217 rfl) rfl
theorem q848 : (Jvm.Cond.instanceMethod ({ cls := "OutwardDoors$Joined", name := "<init>", desc := "(LOutwardDoors$Value;LOutwardDoors$Value;I)V" } : Jvm.MethodName)) ∈ lw_all := lw_g (lw_at lw_m3 219 rfl) rfl
theorem q849 : (Jvm.Cond.code ({ cls := "OutwardDoors$Joined", name := "<init>", desc := "(LOutwardDoors$Value;LOutwardDoors$Value;I)V" } : Jvm.MethodName) prog_9_method_1_code (4 : Nat) (Option.none : Option Jvm.ClassFile.FieldType)) ∈ lw_all := lw_g (lw_at lw_m3 220 rfl) rfl
theorem q850 : (Jvm.Cond.methodLinkNest "OutwardDoors$Joined" (1 : Nat) ({ cls := "OutwardDoors$Value", name := "<init>", desc := "()V" } : Jvm.MethodName) "OutwardDoors") ∈ lw_tbl := lw_at lw_m3 221 rfl
theorem q851 : (Jvm.Cond.fieldLink "OutwardDoors$Joined" (7 : Nat) "OutwardDoors$Joined" "a" "LOutwardDoors$Value;") ∈ lw_all := lw_g (lw_at lw_m3 222 rfl) rfl
theorem q852 : (Jvm.Cond.fieldLink "OutwardDoors$Joined" (13 : Nat) "OutwardDoors$Joined" "b" "LOutwardDoors$Value;") ∈ lw_all := lw_g (lw_at lw_m3 223 rfl) rfl
theorem q853 : (Jvm.Cond.fieldLink "OutwardDoors$Joined" (16 : Nat) "OutwardDoors$Joined" "sign" "I") ∈ lw_all := lw_g (lw_at lw_m3 224 rfl) rfl
theorem q854 : (Jvm.Cond.laysFinal "OutwardDoors$Joined" "OutwardDoors$Joined" "a" "LOutwardDoors$Value;") ∈ lw_all := lw_g (lw_at lw_m3 225 rfl) rfl
theorem q855 : (Jvm.Cond.soleField "OutwardDoors$Joined" "a") ∈ lw_all := lw_g (lw_at lw_m3 226 rfl) rfl
theorem q856 : (Jvm.Cond.laysFinal "OutwardDoors$Joined" "OutwardDoors$Joined" "b" "LOutwardDoors$Value;") ∈ lw_all := lw_g (lw_at lw_m3 227 rfl) rfl
theorem q857 : (Jvm.Cond.soleField "OutwardDoors$Joined" "b") ∈ lw_all := lw_g (lw_at lw_m3 228 rfl) rfl
theorem q858 : (Jvm.Cond.laysFinal "OutwardDoors$Joined" "OutwardDoors$Joined" "sign" "I") ∈ lw_all := lw_g (lw_at lw_m3 229 rfl) rfl
theorem q859 : (Jvm.Cond.soleField "OutwardDoors$Joined" "sign") ∈ lw_all := lw_g (lw_at lw_m3 230 rfl) rfl
theorem q860 : (Jvm.Cond.superclass "OutwardDoors$Joined" "OutwardDoors$Value") ∈ lw_all := lw_g (lw_at lw_m3 231 rfl) rfl
theorem q1095 : (Jvm.Cond.selects "OutwardDoors$Joined" ({ cls := "OutwardDoors$Value", name := "of", desc := "([J)J" } : Jvm.MethodName) ({ cls := "OutwardDoors$Joined", name := "of", desc := "([J)J" } : Jvm.MethodName)) ∈ lw_all := lw_g (lw_at lw_m4 226 rfl) rfl
theorem q1096 : (Jvm.Cond.instanceMethod ({ cls := "OutwardDoors$Joined", name := "of", desc := "([J)J" } : Jvm.MethodName)) ∈ lw_all := lw_g (lw_at lw_m4 227 rfl) rfl
theorem q1097 : (Jvm.Cond.code ({ cls := "OutwardDoors$Joined", name := "of", desc := "([J)J" } : Jvm.MethodName) prog_9_method_2_code (6 : Nat) (Option.some Jvm.ClassFile.FieldType.long)) ∈ lw_all := lw_g (lw_at lw_m4 228 rfl) rfl
theorem q1098 : (Jvm.Cond.methodLink "OutwardDoors$Joined" (20 : Nat) ({ cls := "OutwardDoors$Value", name := "of", desc := "([J)J" } : Jvm.MethodName)) ∈ lw_all := lw_g (lw_at lw_m4 229 rfl) rfl
theorem q2017 : (Jvm.Cond.castable "OutwardDoors$Joined" "java/lang/Object") ∈ lw_tbl := lw_at lw_m8 188 rfl
theorem in_X12 : ∀ w ∈ wsX120, w ∈ lw_all := lw_in wsX120 [854, 856, 858] (by decide +kernel) (by decide +kernel)

/-! OutwardDoors$Told -/
set_option maxRecDepth 100000
def RX13 : String := "OutwardDoors$Told"
def TX13 : u_T := fun k => match k with
  | 0 => ("OutwardDoors$Told", "sum", "LOutwardDoors$Value;", true)
  | _ => ("OutwardDoors$Told", "when", "LOutwardDoors$Condition;", true)
def tyX13 : Nat → FieldType := fun k => match k with
  | 0 => .object "OutwardDoors$Value"
  | _ => .object "OutwardDoors$Condition"
abbrev wsX130 : List Cond := u_ws RX13 TX13 2
theorem nmX13 : ∀ a, a < 2 → ∀ b, b < 2 → a ≠ b → (TX13 a).2.1 ≠ (TX13 b).2.1 := by decide +kernel
theorem tyX13_ok : ∀ k, k < 2 → parseFieldDescriptor (TX13 k).2.2.1 = some (tyX13 k) := by decide +kernel
abbrev cX13_init : ByteArray := prog_16_method_1_code
def yX13_init : MethodName := ⟨RX13, "<init>", "(LOutwardDoors$Value;LOutwardDoors$Condition;)V"⟩
def dkwX13_init_0 : List UInt8 := [42, 183, 0, 1, 42, 43, 181, 0, 7, 42, 44, 181, 0, 13, 177]
abbrev dktX13_init_0 : List UInt8 := dkwX13_init_0 ++ []
theorem dksX13_init_0 : cX13_init.data.toList.drop 0 = dktX13_init_0 := by decide +kernel
theorem dX13_init_0 : decode cX13_init 0 = .ok (.aload_n 0, 1) := dk_42 (dk_at dksX13_init_0 0 rfl rfl)
theorem dX13_init_1 : decode cX13_init 1 = .ok (.invokespecial 1, 3) := dk_183 0 1 (dk_at dksX13_init_0 1 rfl rfl)
theorem dX13_init_4 : decode cX13_init 4 = .ok (.aload_n 0, 1) := dk_42 (dk_at dksX13_init_0 4 rfl rfl)
theorem dX13_init_5 : decode cX13_init 5 = .ok (.aload_n 1, 1) := dk_43 (dk_at dksX13_init_0 5 rfl rfl)
theorem dX13_init_6 : decode cX13_init 6 = .ok (.putfield 7, 3) := dk_181 0 7 (dk_at dksX13_init_0 6 rfl rfl)
theorem dX13_init_9 : decode cX13_init 9 = .ok (.aload_n 0, 1) := dk_42 (dk_at dksX13_init_0 9 rfl rfl)
theorem dX13_init_10 : decode cX13_init 10 = .ok (.aload_n 2, 1) := dk_44 (dk_at dksX13_init_0 10 rfl rfl)
theorem dX13_init_11 : decode cX13_init 11 = .ok (.putfield 13, 3) := dk_181 0 13 (dk_at dksX13_init_0 11 rfl rfl)
theorem dX13_init_14 : decode cX13_init 14 = .ok (.return_, 1) := dk_177 (dk_at dksX13_init_0 14 rfl rfl)
abbrev cX13_holds : ByteArray := prog_16_method_2_code
def yX13_holds : MethodName := ⟨RX13, "holds", "([J)Z"⟩
def dkwX13_holds_0 : List UInt8 := [42, 180, 0, 13, 198, 0, 14, 42, 180, 0, 13, 43, 182, 0, 17, 153, 0, 7, 4, 167, 0, 4, 3, 172]
abbrev dktX13_holds_0 : List UInt8 := dkwX13_holds_0 ++ []
theorem dksX13_holds_0 : cX13_holds.data.toList.drop 0 = dktX13_holds_0 := by decide +kernel
theorem dX13_holds_0 : decode cX13_holds 0 = .ok (.aload_n 0, 1) := dk_42 (dk_at dksX13_holds_0 0 rfl rfl)
theorem dX13_holds_1 : decode cX13_holds 1 = .ok (.getfield 13, 3) := dk_180 0 13 (dk_at dksX13_holds_0 1 rfl rfl)
theorem dX13_holds_4 : decode cX13_holds 4 = .ok (.ifnull 14, 3) := dk_198 0 14 (dk_at dksX13_holds_0 4 rfl rfl)
theorem dX13_holds_7 : decode cX13_holds 7 = .ok (.aload_n 0, 1) := dk_42 (dk_at dksX13_holds_0 7 rfl rfl)
theorem dX13_holds_8 : decode cX13_holds 8 = .ok (.getfield 13, 3) := dk_180 0 13 (dk_at dksX13_holds_0 8 rfl rfl)
theorem dX13_holds_11 : decode cX13_holds 11 = .ok (.aload_n 1, 1) := dk_43 (dk_at dksX13_holds_0 11 rfl rfl)
theorem dX13_holds_12 : decode cX13_holds 12 = .ok (.invokevirtual 17, 3) := dk_182 0 17 (dk_at dksX13_holds_0 12 rfl rfl)
theorem dX13_holds_15 : decode cX13_holds 15 = .ok (.ifCond .eq 7, 3) := dk_153 0 7 (dk_at dksX13_holds_0 15 rfl rfl)
theorem dX13_holds_18 : decode cX13_holds 18 = .ok (.iconst 1, 1) := dk_4 (dk_at dksX13_holds_0 18 rfl rfl)
theorem dX13_holds_19 : decode cX13_holds 19 = .ok (.goto 4, 3) := dk_167 0 4 (dk_at dksX13_holds_0 19 rfl rfl)
theorem dX13_holds_22 : decode cX13_holds 22 = .ok (.iconst 0, 1) := dk_3 (dk_at dksX13_holds_0 22 rfl rfl)
theorem dX13_holds_23 : decode cX13_holds 23 = .ok (.ireturn, 1) := dk_172 (dk_at dksX13_holds_0 23 rfl rfl)
theorem q178 : (Jvm.Cond.initialized "OutwardDoors$Told") ∈ lw_all := lw_g (lw_at lw_m1 29 rfl) rfl
theorem q715 : (Jvm.Cond.selects "OutwardDoors$Told" ({ cls := "java/lang/Object", name := "getClass", desc := "()Ljava/lang/Class;" } : Jvm.MethodName) ({ cls := "java/lang/Object", name := "getClass", desc := "()Ljava/lang/Class;" } : Jvm.MethodName)) ∈ lw_all := lw_g (lw_at lw_m3 86 rfl) rfl
theorem q862 : (Jvm.Cond.instantiable "OutwardDoors$Told" (2 : Nat)) ∈ lw_all := lw_g (lw_at lw_m3 233 rfl) rfl
theorem q936 : (Jvm.Cond.instanceMethod ({ cls := "OutwardDoors$Told", name := "<init>", desc := "(LOutwardDoors$Value;LOutwardDoors$Condition;)V" } : Jvm.MethodName)) ∈ lw_all := lw_g (lw_at lw_m4 67 rfl) rfl
theorem q937 : (Jvm.Cond.code ({ cls := "OutwardDoors$Told", name := "<init>", desc := "(LOutwardDoors$Value;LOutwardDoors$Condition;)V" } : Jvm.MethodName) prog_16_method_1_code (3 : Nat) (Option.none : Option Jvm.ClassFile.FieldType)) ∈ lw_all := lw_g (lw_at lw_m4 68 rfl) rfl
theorem q938 : (Jvm.Cond.methodLink "OutwardDoors$Told" (1 : Nat) ({ cls := "java/lang/Record", name := "<init>", desc := "()V" } : Jvm.MethodName)) ∈ lw_all := lw_g (lw_at lw_m4 69 rfl) rfl
theorem q939 : (Jvm.Cond.fieldLink "OutwardDoors$Told" (7 : Nat) "OutwardDoors$Told" "sum" "LOutwardDoors$Value;") ∈ lw_all := lw_g (lw_at lw_m4 70 rfl) rfl
theorem q941 : (Jvm.Cond.fieldLink "OutwardDoors$Told" (13 : Nat) "OutwardDoors$Told" "when" "LOutwardDoors$Condition;") ∈ lw_all := lw_g (lw_at lw_m4 72 rfl) rfl
theorem q942 : (Jvm.Cond.laysFinal "OutwardDoors$Told" "OutwardDoors$Told" "sum" "LOutwardDoors$Value;") ∈ lw_all := lw_g (lw_at lw_m4 73 rfl) rfl
theorem q943 : (Jvm.Cond.soleField "OutwardDoors$Told" "sum") ∈ lw_all := lw_g (lw_at lw_m4 74 rfl) rfl
theorem q944 : (Jvm.Cond.laysFinal "OutwardDoors$Told" "OutwardDoors$Told" "when" "LOutwardDoors$Condition;") ∈ lw_all := lw_g (lw_at lw_m4 75 rfl) rfl
theorem q945 : (Jvm.Cond.soleField "OutwardDoors$Told" "when") ∈ lw_all := lw_g (lw_at lw_m4 76 rfl) rfl
theorem q946 : (Jvm.Cond.superclass "OutwardDoors$Told" "java/lang/Record") ∈ lw_all := lw_g (lw_at lw_m4 77 rfl) rfl
theorem q1077 : (Jvm.Cond.instanceMethod ({ cls := "OutwardDoors$Told", name := "holds", desc := "([J)Z" } : Jvm.MethodName)) ∈ lw_all := lw_g (lw_at lw_m4 208 rfl) rfl
theorem q1078 : (Jvm.Cond.selects "OutwardDoors$Told" ({ cls := "OutwardDoors$Told", name := "holds", desc := "([J)Z" } : Jvm.MethodName) ({ cls := "OutwardDoors$Told", name := "holds", desc := "([J)Z" } : Jvm.MethodName)) ∈ lw_all := lw_g (lw_at lw_m4 209 rfl) rfl
theorem q1079 : (Jvm.Cond.code ({ cls := "OutwardDoors$Told", name := "holds", desc := "([J)Z" } : Jvm.MethodName) prog_16_method_2_code (2 : Nat) (Option.some Jvm.ClassFile.FieldType.boolean)) ∈ lw_all := lw_g (lw_at lw_m4 210 rfl) rfl
theorem q1080 : (Jvm.Cond.methodLink "OutwardDoors$Told" (17 : Nat) ({ cls := "OutwardDoors$Condition", name := "is", desc := "([J)Z" } : Jvm.MethodName)) ∈ lw_all := lw_g (lw_at lw_m4 211 rfl) rfl
theorem q2018 : (Jvm.Cond.castable "OutwardDoors$Told" "java/lang/Object") ∈ lw_tbl := lw_at lw_m8 189 rfl
theorem in_X13 : ∀ w ∈ wsX130, w ∈ lw_all := lw_in wsX130 [942, 944] (by decide +kernel) (by decide +kernel)

/-! OutwardDoors$Condition -/
set_option maxRecDepth 100000
def RX14 : String := "OutwardDoors$Condition"
abbrev cX14_init : ByteArray := prog_6_method_1_code
def yX14_init : MethodName := ⟨RX14, "<init>", "()V"⟩
theorem dX14_init_0 : decode cX14_init 0 = .ok (.aload_n 0, 1) := by decide +kernel
theorem dX14_init_1 : decode cX14_init 1 = .ok (.invokespecial 1, 3) := by decide +kernel
theorem dX14_init_4 : decode cX14_init 4 = .ok (.return_, 1) := by decide +kernel
theorem q179 : (Jvm.Cond.initialized "OutwardDoors$Condition") ∈ lw_all := lw_g (lw_at lw_m1 30 rfl) rfl
theorem q891 : (Jvm.Cond.instanceMethod ({ cls := "OutwardDoors$Condition", name := "<init>", desc := "()V" } : Jvm.MethodName)) ∈ lw_all := lw_g (lw_at lw_m4 22 rfl) rfl
theorem q892 : (Jvm.Cond.code ({ cls := "OutwardDoors$Condition", name := "<init>", desc := "()V" } : Jvm.MethodName) prog_6_method_1_code (1 : Nat) (Option.none : Option Jvm.ClassFile.FieldType)) ∈ lw_all := lw_g (lw_at lw_m4 23 rfl) rfl
theorem q893 : (Jvm.Cond.methodLink "OutwardDoors$Condition" (1 : Nat) ({ cls := "java/lang/Object", name := "<init>", desc := "()V" } : Jvm.MethodName)) ∈ lw_all := lw_g (lw_at lw_m4 24 rfl) rfl
theorem q1081 : (Jvm.Cond.declares ({ cls := "OutwardDoors$Condition", name := "is", desc := "([J)Z" } : Jvm.MethodName)) ∈ lw_tbl := lw_at lw_m4 212 rfl
theorem q1082 : (Jvm.Cond.sameMethod "OutwardDoors$Condition" "OutwardDoors$Condition" "is" "([J)Z") ∈ lw_all := lw_g (lw_at lw_m4 213 rfl) rfl

/-! OutwardDoors$Not -/
set_option maxRecDepth 100000
def RX15 : String := "OutwardDoors$Not"
def TX15 : u_T := fun k => match k with
  | _ => ("OutwardDoors$Not", "of", "LOutwardDoors$Condition;", true)
def tyX15 : Nat → FieldType := fun k => match k with
  | _ => .object "OutwardDoors$Condition"
abbrev wsX150 : List Cond := u_ws RX15 TX15 1
theorem nmX15 : ∀ a, a < 1 → ∀ b, b < 1 → a ≠ b → (TX15 a).2.1 ≠ (TX15 b).2.1 := by decide +kernel
theorem tyX15_ok : ∀ k, k < 1 → parseFieldDescriptor (TX15 k).2.2.1 = some (tyX15 k) := by decide +kernel
abbrev cX15_init : ByteArray := prog_10_method_1_code
def yX15_init : MethodName := ⟨RX15, "<init>", "(LOutwardDoors$Condition;)V"⟩
def dkwX15_init_0 : List UInt8 := [42, 183, 0, 1, 42, 43, 181, 0, 7, 177]
abbrev dktX15_init_0 : List UInt8 := dkwX15_init_0 ++ []
theorem dksX15_init_0 : cX15_init.data.toList.drop 0 = dktX15_init_0 := by decide +kernel
theorem dX15_init_0 : decode cX15_init 0 = .ok (.aload_n 0, 1) := dk_42 (dk_at dksX15_init_0 0 rfl rfl)
theorem dX15_init_1 : decode cX15_init 1 = .ok (.invokespecial 1, 3) := dk_183 0 1 (dk_at dksX15_init_0 1 rfl rfl)
theorem dX15_init_4 : decode cX15_init 4 = .ok (.aload_n 0, 1) := dk_42 (dk_at dksX15_init_0 4 rfl rfl)
theorem dX15_init_5 : decode cX15_init 5 = .ok (.aload_n 1, 1) := dk_43 (dk_at dksX15_init_0 5 rfl rfl)
theorem dX15_init_6 : decode cX15_init 6 = .ok (.putfield 7, 3) := dk_181 0 7 (dk_at dksX15_init_0 6 rfl rfl)
theorem dX15_init_9 : decode cX15_init 9 = .ok (.return_, 1) := dk_177 (dk_at dksX15_init_0 9 rfl rfl)
abbrev cX15_is : ByteArray := prog_10_method_2_code
def yX15_is : MethodName := ⟨RX15, "is", "([J)Z"⟩
def dkwX15_is_0 : List UInt8 := [42, 180, 0, 7, 43, 182, 0, 13, 154, 0, 7, 4, 167, 0, 4, 3, 172]
abbrev dktX15_is_0 : List UInt8 := dkwX15_is_0 ++ []
theorem dksX15_is_0 : cX15_is.data.toList.drop 0 = dktX15_is_0 := by decide +kernel
theorem dX15_is_0 : decode cX15_is 0 = .ok (.aload_n 0, 1) := dk_42 (dk_at dksX15_is_0 0 rfl rfl)
theorem dX15_is_1 : decode cX15_is 1 = .ok (.getfield 7, 3) := dk_180 0 7 (dk_at dksX15_is_0 1 rfl rfl)
theorem dX15_is_4 : decode cX15_is 4 = .ok (.aload_n 1, 1) := dk_43 (dk_at dksX15_is_0 4 rfl rfl)
theorem dX15_is_5 : decode cX15_is 5 = .ok (.invokevirtual 13, 3) := dk_182 0 13 (dk_at dksX15_is_0 5 rfl rfl)
theorem dX15_is_8 : decode cX15_is 8 = .ok (.ifCond .ne 7, 3) := dk_154 0 7 (dk_at dksX15_is_0 8 rfl rfl)
theorem dX15_is_11 : decode cX15_is 11 = .ok (.iconst 1, 1) := dk_4 (dk_at dksX15_is_0 11 rfl rfl)
theorem dX15_is_12 : decode cX15_is 12 = .ok (.goto 4, 3) := dk_167 0 4 (dk_at dksX15_is_0 12 rfl rfl)
theorem dX15_is_15 : decode cX15_is 15 = .ok (.iconst 0, 1) := dk_3 (dk_at dksX15_is_0 15 rfl rfl)
theorem dX15_is_16 : decode cX15_is 16 = .ok (.ireturn, 1) := dk_172 (dk_at dksX15_is_0 16 rfl rfl)
theorem q180 : (Jvm.Cond.initialized "OutwardDoors$Not") ∈ lw_all := lw_g (lw_at lw_m1 31 rfl) rfl
theorem q709 : (Jvm.Cond.selects "OutwardDoors$Not" ({ cls := "java/lang/Object", name := "getClass", desc := "()Ljava/lang/Class;" } : Jvm.MethodName) ({ cls := "java/lang/Object", name := "getClass", desc := "()Ljava/lang/Class;" } : Jvm.MethodName)) ∈ lw_all := lw_g (lw_at lw_m3 80 rfl) rfl
theorem q886 : (Jvm.Cond.instantiable "OutwardDoors$Not" (1 : Nat)) ∈ lw_all := lw_g (lw_at lw_m4 17 rfl) rfl
theorem q888 : (Jvm.Cond.instanceMethod ({ cls := "OutwardDoors$Not", name := "<init>", desc := "(LOutwardDoors$Condition;)V" } : Jvm.MethodName)) ∈ lw_all := lw_g (lw_at lw_m4 19 rfl) rfl
theorem q889 : (Jvm.Cond.code ({ cls := "OutwardDoors$Not", name := "<init>", desc := "(LOutwardDoors$Condition;)V" } : Jvm.MethodName) prog_10_method_1_code (2 : Nat) (Option.none : Option Jvm.ClassFile.FieldType)) ∈ lw_all := lw_g (lw_at lw_m4 20 rfl) rfl
theorem q890 : (Jvm.Cond.methodLinkNest "OutwardDoors$Not" (1 : Nat) ({ cls := "OutwardDoors$Condition", name := "<init>", desc := "()V" } : Jvm.MethodName) "OutwardDoors") ∈ lw_tbl := lw_at lw_m4 21 rfl
theorem q894 : (Jvm.Cond.fieldLink "OutwardDoors$Not" (7 : Nat) "OutwardDoors$Not" "of" "LOutwardDoors$Condition;") ∈ lw_all := lw_g (lw_at lw_m4 25 rfl) rfl
theorem q895 : (Jvm.Cond.laysFinal "OutwardDoors$Not" "OutwardDoors$Not" "of" "LOutwardDoors$Condition;") ∈ lw_all := lw_g (lw_at lw_m4 26 rfl) rfl
theorem q896 : (Jvm.Cond.soleField "OutwardDoors$Not" "of") ∈ lw_all := lw_g (lw_at lw_m4 27 rfl) rfl
theorem q897 : (Jvm.Cond.superclass "OutwardDoors$Not" "OutwardDoors$Condition") ∈ lw_all := lw_g (lw_at lw_m4 28 rfl) rfl
theorem q1102 : (Jvm.Cond.instanceMethod ({ cls := "OutwardDoors$Not", name := "is", desc := "([J)Z" } : Jvm.MethodName)) ∈ lw_all := lw_g (lw_at lw_m4 233 rfl) rfl
theorem q1103 : (Jvm.Cond.code ({ cls := "OutwardDoors$Not", name := "is", desc := "([J)Z" } : Jvm.MethodName) prog_10_method_2_code (2 : Nat) (Option.some Jvm.ClassFile.FieldType.boolean)) ∈ lw_all := lw_g (lw_at lw_m4 234 rfl) rfl
theorem q1104 : (Jvm.Cond.methodLink "OutwardDoors$Not" (13 : Nat) ({ cls := "OutwardDoors$Condition", name := "is", desc := "([J)Z" } : Jvm.MethodName)) ∈ lw_all := lw_g (lw_at lw_m4 235 rfl) rfl
theorem q1106 : (Jvm.Cond.selects "OutwardDoors$Not" ({ cls := "OutwardDoors$Condition", name := "is", desc := "([J)Z" } : Jvm.MethodName) ({ cls := "OutwardDoors$Not", name := "is", desc := "([J)Z" } : Jvm.MethodName)) ∈ lw_all := lw_g (lw_at lw_m4 237 rfl) rfl
theorem q2019 : (Jvm.Cond.castable "OutwardDoors$Not" "java/lang/Object") ∈ lw_tbl := lw_at lw_m8 190 rfl
theorem in_X15 : ∀ w ∈ wsX150, w ∈ lw_all := lw_in wsX150 [895] (by decide +kernel) (by decide +kernel)

/-! OutwardDoors$Compared -/
set_option maxRecDepth 100000
def RX16 : String := "OutwardDoors$Compared"
def TX16 : u_T := fun k => match k with
  | 0 => ("OutwardDoors$Compared", "a", "LOutwardDoors$Value;", true)
  | 1 => ("OutwardDoors$Compared", "b", "LOutwardDoors$Value;", true)
  | 2 => ("OutwardDoors$Compared", "sign", "I", true)
  | _ => ("OutwardDoors$Compared", "same", "Z", true)
def tyX16 : Nat → FieldType := fun k => match k with
  | 0 => .object "OutwardDoors$Value"
  | 1 => .object "OutwardDoors$Value"
  | 2 => .int
  | _ => .boolean
abbrev wsX160 : List Cond := u_ws RX16 TX16 4
theorem nmX16 : ∀ a, a < 4 → ∀ b, b < 4 → a ≠ b → (TX16 a).2.1 ≠ (TX16 b).2.1 := by decide +kernel
theorem tyX16_ok : ∀ k, k < 4 → parseFieldDescriptor (TX16 k).2.2.1 = some (tyX16 k) := by decide +kernel
abbrev cX16_init : ByteArray := prog_5_method_1_code
def yX16_init : MethodName := ⟨RX16, "<init>", "(LOutwardDoors$Value;LOutwardDoors$Value;IZ)V"⟩
def dkwX16_init_1 : List UInt8 := [181, 0, 20, 177]
abbrev dktX16_init_1 : List UInt8 := dkwX16_init_1 ++ []
def dkwX16_init_0 : List UInt8 := [42, 183, 0, 1, 42, 43, 181, 0, 7, 42, 44, 181, 0, 13, 42, 29, 181, 0, 16, 42, 21, 4]
abbrev dktX16_init_0 : List UInt8 := dkwX16_init_0 ++ dktX16_init_1
theorem dksX16_init_0 : cX16_init.data.toList.drop 0 = dktX16_init_0 := by decide +kernel
theorem dksX16_init_1 : cX16_init.data.toList.drop 22 = dktX16_init_1 := dk_seg dksX16_init_0 22 rfl rfl
theorem dX16_init_0 : decode cX16_init 0 = .ok (.aload_n 0, 1) := dk_42 (dk_at dksX16_init_0 0 rfl rfl)
theorem dX16_init_1 : decode cX16_init 1 = .ok (.invokespecial 1, 3) := dk_183 0 1 (dk_at dksX16_init_0 1 rfl rfl)
theorem dX16_init_4 : decode cX16_init 4 = .ok (.aload_n 0, 1) := dk_42 (dk_at dksX16_init_0 4 rfl rfl)
theorem dX16_init_5 : decode cX16_init 5 = .ok (.aload_n 1, 1) := dk_43 (dk_at dksX16_init_0 5 rfl rfl)
theorem dX16_init_6 : decode cX16_init 6 = .ok (.putfield 7, 3) := dk_181 0 7 (dk_at dksX16_init_0 6 rfl rfl)
theorem dX16_init_9 : decode cX16_init 9 = .ok (.aload_n 0, 1) := dk_42 (dk_at dksX16_init_0 9 rfl rfl)
theorem dX16_init_10 : decode cX16_init 10 = .ok (.aload_n 2, 1) := dk_44 (dk_at dksX16_init_0 10 rfl rfl)
theorem dX16_init_11 : decode cX16_init 11 = .ok (.putfield 13, 3) := dk_181 0 13 (dk_at dksX16_init_0 11 rfl rfl)
theorem dX16_init_14 : decode cX16_init 14 = .ok (.aload_n 0, 1) := dk_42 (dk_at dksX16_init_0 14 rfl rfl)
theorem dX16_init_15 : decode cX16_init 15 = .ok (.iload_n 3, 1) := dk_29 (dk_at dksX16_init_0 15 rfl rfl)
theorem dX16_init_16 : decode cX16_init 16 = .ok (.putfield 16, 3) := dk_181 0 16 (dk_at dksX16_init_0 16 rfl rfl)
theorem dX16_init_19 : decode cX16_init 19 = .ok (.aload_n 0, 1) := dk_42 (dk_at dksX16_init_0 19 rfl rfl)
theorem dX16_init_20 : decode cX16_init 20 = .ok (.iload 4, 2) := dk_21 4 (dk_at dksX16_init_0 20 rfl rfl)
theorem dX16_init_22 : decode cX16_init 22 = .ok (.putfield 20, 3) := dk_181 0 20 (dk_at dksX16_init_1 0 rfl rfl)
theorem dX16_init_25 : decode cX16_init 25 = .ok (.return_, 1) := dk_177 (dk_at dksX16_init_1 3 rfl rfl)
abbrev cX16_is : ByteArray := prog_5_method_2_code
def yX16_is : MethodName := ⟨RX16, "is", "([J)Z"⟩
def dkwX16_is_3 : List UInt8 := [16, 62, 160, 0, 14, 32, 22, 4, 148, 158, 0, 7, 4, 167, 0, 4, 3, 172]
abbrev dktX16_is_3 : List UInt8 := dkwX16_is_3 ++ []
def dkwX16_is_2 : List UInt8 := [167, 0, 40, 42, 180, 0, 16, 16, 60, 160, 0, 10, 32, 22, 4, 148, 155, 0, 19, 42, 180, 0, 16]
abbrev dktX16_is_2 : List UInt8 := dkwX16_is_2 ++ dktX16_is_3
def dkwX16_is_1 : List UInt8 := [154, 0, 27, 42, 180, 0, 16, 16, 61, 159, 0, 10, 42, 180, 0, 20, 153, 0, 7, 4, 167, 0, 44, 3]
abbrev dktX16_is_1 : List UInt8 := dkwX16_is_1 ++ dktX16_is_2
def dkwX16_is_0 : List UInt8 := [42, 180, 0, 7, 43, 182, 0, 24, 65, 42, 180, 0, 13, 43, 182, 0, 24, 55, 4, 32, 22, 4, 148]
abbrev dktX16_is_0 : List UInt8 := dkwX16_is_0 ++ dktX16_is_1
theorem dksX16_is_0 : cX16_is.data.toList.drop 0 = dktX16_is_0 := by decide +kernel
theorem dksX16_is_1 : cX16_is.data.toList.drop 23 = dktX16_is_1 := dk_seg dksX16_is_0 23 rfl rfl
theorem dksX16_is_2 : cX16_is.data.toList.drop 47 = dktX16_is_2 := dk_seg dksX16_is_1 24 rfl rfl
theorem dksX16_is_3 : cX16_is.data.toList.drop 70 = dktX16_is_3 := dk_seg dksX16_is_2 23 rfl rfl
theorem dX16_is_0 : decode cX16_is 0 = .ok (.aload_n 0, 1) := dk_42 (dk_at dksX16_is_0 0 rfl rfl)
theorem dX16_is_1 : decode cX16_is 1 = .ok (.getfield 7, 3) := dk_180 0 7 (dk_at dksX16_is_0 1 rfl rfl)
theorem dX16_is_4 : decode cX16_is 4 = .ok (.aload_n 1, 1) := dk_43 (dk_at dksX16_is_0 4 rfl rfl)
theorem dX16_is_5 : decode cX16_is 5 = .ok (.invokevirtual 24, 3) := dk_182 0 24 (dk_at dksX16_is_0 5 rfl rfl)
theorem dX16_is_8 : decode cX16_is 8 = .ok (.lstore_n 2, 1) := dk_65 (dk_at dksX16_is_0 8 rfl rfl)
theorem dX16_is_9 : decode cX16_is 9 = .ok (.aload_n 0, 1) := dk_42 (dk_at dksX16_is_0 9 rfl rfl)
theorem dX16_is_10 : decode cX16_is 10 = .ok (.getfield 13, 3) := dk_180 0 13 (dk_at dksX16_is_0 10 rfl rfl)
theorem dX16_is_13 : decode cX16_is 13 = .ok (.aload_n 1, 1) := dk_43 (dk_at dksX16_is_0 13 rfl rfl)
theorem dX16_is_14 : decode cX16_is 14 = .ok (.invokevirtual 24, 3) := dk_182 0 24 (dk_at dksX16_is_0 14 rfl rfl)
theorem dX16_is_17 : decode cX16_is 17 = .ok (.lstore 4, 2) := dk_55 4 (dk_at dksX16_is_0 17 rfl rfl)
theorem dX16_is_19 : decode cX16_is 19 = .ok (.lload_n 2, 1) := dk_32 (dk_at dksX16_is_0 19 rfl rfl)
theorem dX16_is_20 : decode cX16_is 20 = .ok (.lload 4, 2) := dk_22 4 (dk_at dksX16_is_0 20 rfl rfl)
theorem dX16_is_22 : decode cX16_is 22 = .ok (.lcmp, 1) := dk_148 (dk_at dksX16_is_0 22 rfl rfl)
theorem dX16_is_23 : decode cX16_is 23 = .ok (.ifCond .ne 27, 3) := dk_154 0 27 (dk_at dksX16_is_1 0 rfl rfl)
theorem dX16_is_26 : decode cX16_is 26 = .ok (.aload_n 0, 1) := dk_42 (dk_at dksX16_is_1 3 rfl rfl)
theorem dX16_is_27 : decode cX16_is 27 = .ok (.getfield 16, 3) := dk_180 0 16 (dk_at dksX16_is_1 4 rfl rfl)
theorem dX16_is_30 : decode cX16_is 30 = .ok (.bipush 61, 2) := dk_16 61 (dk_at dksX16_is_1 7 rfl rfl)
theorem dX16_is_32 : decode cX16_is 32 = .ok (.if_icmp .eq 10, 3) := dk_159 0 10 (dk_at dksX16_is_1 9 rfl rfl)
theorem dX16_is_35 : decode cX16_is 35 = .ok (.aload_n 0, 1) := dk_42 (dk_at dksX16_is_1 12 rfl rfl)
theorem dX16_is_36 : decode cX16_is 36 = .ok (.getfield 20, 3) := dk_180 0 20 (dk_at dksX16_is_1 13 rfl rfl)
theorem dX16_is_39 : decode cX16_is 39 = .ok (.ifCond .eq 7, 3) := dk_153 0 7 (dk_at dksX16_is_1 16 rfl rfl)
theorem dX16_is_42 : decode cX16_is 42 = .ok (.iconst 1, 1) := dk_4 (dk_at dksX16_is_1 19 rfl rfl)
theorem dX16_is_43 : decode cX16_is 43 = .ok (.goto 44, 3) := dk_167 0 44 (dk_at dksX16_is_1 20 rfl rfl)
theorem dX16_is_46 : decode cX16_is 46 = .ok (.iconst 0, 1) := dk_3 (dk_at dksX16_is_1 23 rfl rfl)
theorem dX16_is_47 : decode cX16_is 47 = .ok (.goto 40, 3) := dk_167 0 40 (dk_at dksX16_is_2 0 rfl rfl)
theorem dX16_is_50 : decode cX16_is 50 = .ok (.aload_n 0, 1) := dk_42 (dk_at dksX16_is_2 3 rfl rfl)
theorem dX16_is_51 : decode cX16_is 51 = .ok (.getfield 16, 3) := dk_180 0 16 (dk_at dksX16_is_2 4 rfl rfl)
theorem dX16_is_54 : decode cX16_is 54 = .ok (.bipush 60, 2) := dk_16 60 (dk_at dksX16_is_2 7 rfl rfl)
theorem dX16_is_56 : decode cX16_is 56 = .ok (.if_icmp .ne 10, 3) := dk_160 0 10 (dk_at dksX16_is_2 9 rfl rfl)
theorem dX16_is_59 : decode cX16_is 59 = .ok (.lload_n 2, 1) := dk_32 (dk_at dksX16_is_2 12 rfl rfl)
theorem dX16_is_60 : decode cX16_is 60 = .ok (.lload 4, 2) := dk_22 4 (dk_at dksX16_is_2 13 rfl rfl)
theorem dX16_is_62 : decode cX16_is 62 = .ok (.lcmp, 1) := dk_148 (dk_at dksX16_is_2 15 rfl rfl)
theorem dX16_is_63 : decode cX16_is 63 = .ok (.ifCond .lt 19, 3) := dk_155 0 19 (dk_at dksX16_is_2 16 rfl rfl)
theorem dX16_is_66 : decode cX16_is 66 = .ok (.aload_n 0, 1) := dk_42 (dk_at dksX16_is_2 19 rfl rfl)
theorem dX16_is_67 : decode cX16_is 67 = .ok (.getfield 16, 3) := dk_180 0 16 (dk_at dksX16_is_2 20 rfl rfl)
theorem dX16_is_70 : decode cX16_is 70 = .ok (.bipush 62, 2) := dk_16 62 (dk_at dksX16_is_3 0 rfl rfl)
theorem dX16_is_72 : decode cX16_is 72 = .ok (.if_icmp .ne 14, 3) := dk_160 0 14 (dk_at dksX16_is_3 2 rfl rfl)
theorem dX16_is_75 : decode cX16_is 75 = .ok (.lload_n 2, 1) := dk_32 (dk_at dksX16_is_3 5 rfl rfl)
theorem dX16_is_76 : decode cX16_is 76 = .ok (.lload 4, 2) := dk_22 4 (dk_at dksX16_is_3 6 rfl rfl)
theorem dX16_is_78 : decode cX16_is 78 = .ok (.lcmp, 1) := dk_148 (dk_at dksX16_is_3 8 rfl rfl)
theorem dX16_is_79 : decode cX16_is 79 = .ok (.ifCond .le 7, 3) := dk_158 0 7 (dk_at dksX16_is_3 9 rfl rfl)
theorem dX16_is_82 : decode cX16_is 82 = .ok (.iconst 1, 1) := dk_4 (dk_at dksX16_is_3 12 rfl rfl)
theorem dX16_is_83 : decode cX16_is 83 = .ok (.goto 4, 3) := dk_167 0 4 (dk_at dksX16_is_3 13 rfl rfl)
theorem dX16_is_86 : decode cX16_is 86 = .ok (.iconst 0, 1) := dk_3 (dk_at dksX16_is_3 16 rfl rfl)
theorem dX16_is_87 : decode cX16_is 87 = .ok (.ireturn, 1) := dk_172 (dk_at dksX16_is_3 17 rfl rfl)
theorem q181 : (Jvm.Cond.initialized "OutwardDoors$Compared") ∈ lw_all := lw_g (lw_at lw_m1 32 rfl) rfl
theorem q705 : (Jvm.Cond.selects "OutwardDoors$Compared" ({ cls := "java/lang/Object", name := "getClass", desc := "()Ljava/lang/Class;" } : Jvm.MethodName) ({ cls := "java/lang/Object", name := "getClass", desc := "()Ljava/lang/Class;" } : Jvm.MethodName)) ∈ lw_all := lw_g (lw_at lw_m3 76 rfl) rfl
theorem q899 : (Jvm.Cond.instantiable "OutwardDoors$Compared" (4 : Nat)) ∈ lw_all := lw_g (lw_at lw_m4 30 rfl) rfl
theorem q901 : (Jvm.Cond.instanceMethod ({ cls := "OutwardDoors$Compared", name := "<init>", desc := "(LOutwardDoors$Value;LOutwardDoors$Value;IZ)V" } : Jvm.MethodName)) ∈ lw_all := lw_g (lw_at lw_m4 32 rfl) rfl
theorem q902 : (Jvm.Cond.code ({ cls := "OutwardDoors$Compared", name := "<init>", desc := "(LOutwardDoors$Value;LOutwardDoors$Value;IZ)V" } : Jvm.MethodName) prog_5_method_1_code (5 : Nat) (Option.none : Option Jvm.ClassFile.FieldType)) ∈ lw_all := lw_g (lw_at lw_m4 33 rfl) rfl
theorem q903 : (Jvm.Cond.methodLinkNest "OutwardDoors$Compared" (1 : Nat) ({ cls := "OutwardDoors$Condition", name := "<init>", desc := "()V" } : Jvm.MethodName) "OutwardDoors") ∈ lw_tbl := lw_at lw_m4 34 rfl
theorem q904 : (Jvm.Cond.fieldLink "OutwardDoors$Compared" (7 : Nat) "OutwardDoors$Compared" "a" "LOutwardDoors$Value;") ∈ lw_all := lw_g (lw_at lw_m4 35 rfl) rfl
theorem q905 : (Jvm.Cond.fieldLink "OutwardDoors$Compared" (13 : Nat) "OutwardDoors$Compared" "b" "LOutwardDoors$Value;") ∈ lw_all := lw_g (lw_at lw_m4 36 rfl) rfl
theorem q906 : (Jvm.Cond.fieldLink "OutwardDoors$Compared" (16 : Nat) "OutwardDoors$Compared" "sign" "I") ∈ lw_all := lw_g (lw_at lw_m4 37 rfl) rfl
theorem q907 : (Jvm.Cond.fieldLink "OutwardDoors$Compared" (20 : Nat) "OutwardDoors$Compared" "same" "Z") ∈ lw_all := lw_g (lw_at lw_m4 38 rfl) rfl
theorem q908 : (Jvm.Cond.laysFinal "OutwardDoors$Compared" "OutwardDoors$Compared" "a" "LOutwardDoors$Value;") ∈ lw_all := lw_g (lw_at lw_m4 39 rfl) rfl
theorem q909 : (Jvm.Cond.soleField "OutwardDoors$Compared" "a") ∈ lw_all := lw_g (lw_at lw_m4 40 rfl) rfl
theorem q910 : (Jvm.Cond.laysFinal "OutwardDoors$Compared" "OutwardDoors$Compared" "b" "LOutwardDoors$Value;") ∈ lw_all := lw_g (lw_at lw_m4 41 rfl) rfl
theorem q911 : (Jvm.Cond.soleField "OutwardDoors$Compared" "b") ∈ lw_all := lw_g (lw_at lw_m4 42 rfl) rfl
theorem q912 : (Jvm.Cond.laysFinal "OutwardDoors$Compared" "OutwardDoors$Compared" "sign" "I") ∈ lw_all := lw_g (lw_at lw_m4 43 rfl) rfl
theorem q913 : (Jvm.Cond.soleField "OutwardDoors$Compared" "sign") ∈ lw_all := lw_g (lw_at lw_m4 44 rfl) rfl
theorem q914 : (Jvm.Cond.laysFinal "OutwardDoors$Compared" "OutwardDoors$Compared" "same" "Z") ∈ lw_all := lw_g (lw_at lw_m4 45 rfl) rfl
theorem q915 : (Jvm.Cond.soleField "OutwardDoors$Compared" "same") ∈ lw_all := lw_g (lw_at lw_m4 46 rfl) rfl
theorem q916 : (Jvm.Cond.superclass "OutwardDoors$Compared" "OutwardDoors$Condition") ∈ lw_all := lw_g (lw_at lw_m4 47 rfl) rfl
theorem q1087 : (Jvm.Cond.instanceMethod ({ cls := "OutwardDoors$Compared", name := "is", desc := "([J)Z" } : Jvm.MethodName)) ∈ lw_all := lw_g (lw_at lw_m4 218 rfl) rfl
theorem q1088 : (Jvm.Cond.code ({ cls := "OutwardDoors$Compared", name := "is", desc := "([J)Z" } : Jvm.MethodName) prog_5_method_2_code (6 : Nat) (Option.some Jvm.ClassFile.FieldType.boolean)) ∈ lw_all := lw_g (lw_at lw_m4 219 rfl) rfl
theorem q1089 : (Jvm.Cond.methodLink "OutwardDoors$Compared" (24 : Nat) ({ cls := "OutwardDoors$Value", name := "of", desc := "([J)J" } : Jvm.MethodName)) ∈ lw_all := lw_g (lw_at lw_m4 220 rfl) rfl
theorem q1105 : (Jvm.Cond.selects "OutwardDoors$Compared" ({ cls := "OutwardDoors$Condition", name := "is", desc := "([J)Z" } : Jvm.MethodName) ({ cls := "OutwardDoors$Compared", name := "is", desc := "([J)Z" } : Jvm.MethodName)) ∈ lw_all := lw_g (lw_at lw_m4 236 rfl) rfl
theorem q2020 : (Jvm.Cond.castable "OutwardDoors$Compared" "java/lang/Object") ∈ lw_tbl := lw_at lw_m8 191 rfl
theorem in_X16 : ∀ w ∈ wsX160, w ∈ lw_all := lw_in wsX160 [908, 910, 912, 914] (by decide +kernel) (by decide +kernel)

/-! OutwardDoors$Both -/
set_option maxRecDepth 100000
def RX17 : String := "OutwardDoors$Both"
def TX17 : u_T := fun k => match k with
  | 0 => ("OutwardDoors$Both", "a", "LOutwardDoors$Condition;", true)
  | 1 => ("OutwardDoors$Both", "b", "LOutwardDoors$Condition;", true)
  | _ => ("OutwardDoors$Both", "or", "Z", true)
def tyX17 : Nat → FieldType := fun k => match k with
  | 0 => .object "OutwardDoors$Condition"
  | 1 => .object "OutwardDoors$Condition"
  | _ => .boolean
abbrev wsX170 : List Cond := u_ws RX17 TX17 3
theorem nmX17 : ∀ a, a < 3 → ∀ b, b < 3 → a ≠ b → (TX17 a).2.1 ≠ (TX17 b).2.1 := by decide +kernel
theorem tyX17_ok : ∀ k, k < 3 → parseFieldDescriptor (TX17 k).2.2.1 = some (tyX17 k) := by decide +kernel
abbrev cX17_init : ByteArray := prog_3_method_1_code
def yX17_init : MethodName := ⟨RX17, "<init>", "(LOutwardDoors$Condition;LOutwardDoors$Condition;Z)V"⟩
def dkwX17_init_0 : List UInt8 := [42, 183, 0, 1, 42, 43, 181, 0, 7, 42, 44, 181, 0, 13, 42, 29, 181, 0, 16, 177]
abbrev dktX17_init_0 : List UInt8 := dkwX17_init_0 ++ []
theorem dksX17_init_0 : cX17_init.data.toList.drop 0 = dktX17_init_0 := by decide +kernel
theorem dX17_init_0 : decode cX17_init 0 = .ok (.aload_n 0, 1) := dk_42 (dk_at dksX17_init_0 0 rfl rfl)
theorem dX17_init_1 : decode cX17_init 1 = .ok (.invokespecial 1, 3) := dk_183 0 1 (dk_at dksX17_init_0 1 rfl rfl)
theorem dX17_init_4 : decode cX17_init 4 = .ok (.aload_n 0, 1) := dk_42 (dk_at dksX17_init_0 4 rfl rfl)
theorem dX17_init_5 : decode cX17_init 5 = .ok (.aload_n 1, 1) := dk_43 (dk_at dksX17_init_0 5 rfl rfl)
theorem dX17_init_6 : decode cX17_init 6 = .ok (.putfield 7, 3) := dk_181 0 7 (dk_at dksX17_init_0 6 rfl rfl)
theorem dX17_init_9 : decode cX17_init 9 = .ok (.aload_n 0, 1) := dk_42 (dk_at dksX17_init_0 9 rfl rfl)
theorem dX17_init_10 : decode cX17_init 10 = .ok (.aload_n 2, 1) := dk_44 (dk_at dksX17_init_0 10 rfl rfl)
theorem dX17_init_11 : decode cX17_init 11 = .ok (.putfield 13, 3) := dk_181 0 13 (dk_at dksX17_init_0 11 rfl rfl)
theorem dX17_init_14 : decode cX17_init 14 = .ok (.aload_n 0, 1) := dk_42 (dk_at dksX17_init_0 14 rfl rfl)
theorem dX17_init_15 : decode cX17_init 15 = .ok (.iload_n 3, 1) := dk_29 (dk_at dksX17_init_0 15 rfl rfl)
theorem dX17_init_16 : decode cX17_init 16 = .ok (.putfield 16, 3) := dk_181 0 16 (dk_at dksX17_init_0 16 rfl rfl)
theorem dX17_init_19 : decode cX17_init 19 = .ok (.return_, 1) := dk_177 (dk_at dksX17_init_0 19 rfl rfl)
abbrev cX17_is : ByteArray := prog_3_method_2_code
def yX17_is : MethodName := ⟨RX17, "is", "([J)Z"⟩
def dkwX17_is_2 : List UInt8 := [153, 0, 18, 42, 180, 0, 13, 43, 182, 0, 20, 153, 0, 7, 4, 167, 0, 4, 3, 172]
abbrev dktX17_is_2 : List UInt8 := dkwX17_is_2 ++ []
def dkwX17_is_1 : List UInt8 := [182, 0, 20, 153, 0, 7, 4, 167, 0, 34, 3, 167, 0, 30, 42, 180, 0, 7, 43, 182, 0, 20]
abbrev dktX17_is_1 : List UInt8 := dkwX17_is_1 ++ dktX17_is_2
def dkwX17_is_0 : List UInt8 := [42, 180, 0, 16, 153, 0, 33, 42, 180, 0, 7, 43, 182, 0, 20, 154, 0, 14, 42, 180, 0, 13, 43]
abbrev dktX17_is_0 : List UInt8 := dkwX17_is_0 ++ dktX17_is_1
theorem dksX17_is_0 : cX17_is.data.toList.drop 0 = dktX17_is_0 := by decide +kernel
theorem dksX17_is_1 : cX17_is.data.toList.drop 23 = dktX17_is_1 := dk_seg dksX17_is_0 23 rfl rfl
theorem dksX17_is_2 : cX17_is.data.toList.drop 45 = dktX17_is_2 := dk_seg dksX17_is_1 22 rfl rfl
theorem dX17_is_0 : decode cX17_is 0 = .ok (.aload_n 0, 1) := dk_42 (dk_at dksX17_is_0 0 rfl rfl)
theorem dX17_is_1 : decode cX17_is 1 = .ok (.getfield 16, 3) := dk_180 0 16 (dk_at dksX17_is_0 1 rfl rfl)
theorem dX17_is_4 : decode cX17_is 4 = .ok (.ifCond .eq 33, 3) := dk_153 0 33 (dk_at dksX17_is_0 4 rfl rfl)
theorem dX17_is_7 : decode cX17_is 7 = .ok (.aload_n 0, 1) := dk_42 (dk_at dksX17_is_0 7 rfl rfl)
theorem dX17_is_8 : decode cX17_is 8 = .ok (.getfield 7, 3) := dk_180 0 7 (dk_at dksX17_is_0 8 rfl rfl)
theorem dX17_is_11 : decode cX17_is 11 = .ok (.aload_n 1, 1) := dk_43 (dk_at dksX17_is_0 11 rfl rfl)
theorem dX17_is_12 : decode cX17_is 12 = .ok (.invokevirtual 20, 3) := dk_182 0 20 (dk_at dksX17_is_0 12 rfl rfl)
theorem dX17_is_15 : decode cX17_is 15 = .ok (.ifCond .ne 14, 3) := dk_154 0 14 (dk_at dksX17_is_0 15 rfl rfl)
theorem dX17_is_18 : decode cX17_is 18 = .ok (.aload_n 0, 1) := dk_42 (dk_at dksX17_is_0 18 rfl rfl)
theorem dX17_is_19 : decode cX17_is 19 = .ok (.getfield 13, 3) := dk_180 0 13 (dk_at dksX17_is_0 19 rfl rfl)
theorem dX17_is_22 : decode cX17_is 22 = .ok (.aload_n 1, 1) := dk_43 (dk_at dksX17_is_0 22 rfl rfl)
theorem dX17_is_23 : decode cX17_is 23 = .ok (.invokevirtual 20, 3) := dk_182 0 20 (dk_at dksX17_is_1 0 rfl rfl)
theorem dX17_is_26 : decode cX17_is 26 = .ok (.ifCond .eq 7, 3) := dk_153 0 7 (dk_at dksX17_is_1 3 rfl rfl)
theorem dX17_is_29 : decode cX17_is 29 = .ok (.iconst 1, 1) := dk_4 (dk_at dksX17_is_1 6 rfl rfl)
theorem dX17_is_30 : decode cX17_is 30 = .ok (.goto 34, 3) := dk_167 0 34 (dk_at dksX17_is_1 7 rfl rfl)
theorem dX17_is_33 : decode cX17_is 33 = .ok (.iconst 0, 1) := dk_3 (dk_at dksX17_is_1 10 rfl rfl)
theorem dX17_is_34 : decode cX17_is 34 = .ok (.goto 30, 3) := dk_167 0 30 (dk_at dksX17_is_1 11 rfl rfl)
theorem dX17_is_37 : decode cX17_is 37 = .ok (.aload_n 0, 1) := dk_42 (dk_at dksX17_is_1 14 rfl rfl)
theorem dX17_is_38 : decode cX17_is 38 = .ok (.getfield 7, 3) := dk_180 0 7 (dk_at dksX17_is_1 15 rfl rfl)
theorem dX17_is_41 : decode cX17_is 41 = .ok (.aload_n 1, 1) := dk_43 (dk_at dksX17_is_1 18 rfl rfl)
theorem dX17_is_42 : decode cX17_is 42 = .ok (.invokevirtual 20, 3) := dk_182 0 20 (dk_at dksX17_is_1 19 rfl rfl)
theorem dX17_is_45 : decode cX17_is 45 = .ok (.ifCond .eq 18, 3) := dk_153 0 18 (dk_at dksX17_is_2 0 rfl rfl)
theorem dX17_is_48 : decode cX17_is 48 = .ok (.aload_n 0, 1) := dk_42 (dk_at dksX17_is_2 3 rfl rfl)
theorem dX17_is_49 : decode cX17_is 49 = .ok (.getfield 13, 3) := dk_180 0 13 (dk_at dksX17_is_2 4 rfl rfl)
theorem dX17_is_52 : decode cX17_is 52 = .ok (.aload_n 1, 1) := dk_43 (dk_at dksX17_is_2 7 rfl rfl)
theorem dX17_is_53 : decode cX17_is 53 = .ok (.invokevirtual 20, 3) := dk_182 0 20 (dk_at dksX17_is_2 8 rfl rfl)
theorem dX17_is_56 : decode cX17_is 56 = .ok (.ifCond .eq 7, 3) := dk_153 0 7 (dk_at dksX17_is_2 11 rfl rfl)
theorem dX17_is_59 : decode cX17_is 59 = .ok (.iconst 1, 1) := dk_4 (dk_at dksX17_is_2 14 rfl rfl)
theorem dX17_is_60 : decode cX17_is 60 = .ok (.goto 4, 3) := dk_167 0 4 (dk_at dksX17_is_2 15 rfl rfl)
theorem dX17_is_63 : decode cX17_is 63 = .ok (.iconst 0, 1) := dk_3 (dk_at dksX17_is_2 18 rfl rfl)
theorem dX17_is_64 : decode cX17_is 64 = .ok (.ireturn, 1) := dk_172 (dk_at dksX17_is_2 19 rfl rfl)
theorem q182 : (Jvm.Cond.initialized "OutwardDoors$Both") ∈ lw_all := lw_g (lw_at lw_m1 33 rfl) rfl
theorem q703 : (Jvm.Cond.selects "OutwardDoors$Both" ({ cls := "java/lang/Object", name := "getClass", desc := "()Ljava/lang/Class;" } : Jvm.MethodName) ({ cls := "java/lang/Object", name := "getClass", desc := "()Ljava/lang/Class;" } : Jvm.MethodName)) ∈ lw_all := lw_g (lw_at lw_m3 74 rfl) rfl
theorem q919 : (Jvm.Cond.instantiable "OutwardDoors$Both" (3 : Nat)) ∈ lw_all := lw_g (lw_at lw_m4 50 rfl) rfl
theorem q921 : (Jvm.Cond.instanceMethod ({ cls := "OutwardDoors$Both", name := "<init>", desc := "(LOutwardDoors$Condition;LOutwardDoors$Condition;Z)V" } : Jvm.MethodName)) ∈ lw_all := lw_g (lw_at lw_m4 52 rfl) rfl
theorem q922 : (Jvm.Cond.code ({ cls := "OutwardDoors$Both", name := "<init>", desc := "(LOutwardDoors$Condition;LOutwardDoors$Condition;Z)V" } : Jvm.MethodName) prog_3_method_1_code (4 : Nat) (Option.none : Option Jvm.ClassFile.FieldType)) ∈ lw_all := lw_g (lw_at lw_m4 53 rfl) rfl
theorem q923 : (Jvm.Cond.methodLinkNest "OutwardDoors$Both" (1 : Nat) ({ cls := "OutwardDoors$Condition", name := "<init>", desc := "()V" } : Jvm.MethodName) "OutwardDoors") ∈ lw_tbl := lw_at lw_m4 54 rfl
theorem q924 : (Jvm.Cond.fieldLink "OutwardDoors$Both" (7 : Nat) "OutwardDoors$Both" "a" "LOutwardDoors$Condition;") ∈ lw_all := lw_g (lw_at lw_m4 55 rfl) rfl
theorem q925 : (Jvm.Cond.fieldLink "OutwardDoors$Both" (13 : Nat) "OutwardDoors$Both" "b" "LOutwardDoors$Condition;") ∈ lw_all := lw_g (lw_at lw_m4 56 rfl) rfl
theorem q926 : (Jvm.Cond.fieldLink "OutwardDoors$Both" (16 : Nat) "OutwardDoors$Both" "or" "Z") ∈ lw_all := lw_g (lw_at lw_m4 57 rfl) rfl
theorem q927 : (Jvm.Cond.laysFinal "OutwardDoors$Both" "OutwardDoors$Both" "a" "LOutwardDoors$Condition;") ∈ lw_all := lw_g (lw_at lw_m4 58 rfl) rfl
theorem q928 : (Jvm.Cond.soleField "OutwardDoors$Both" "a") ∈ lw_all := lw_g (lw_at lw_m4 59 rfl) rfl
theorem q929 : (Jvm.Cond.laysFinal "OutwardDoors$Both" "OutwardDoors$Both" "b" "LOutwardDoors$Condition;") ∈ lw_all := lw_g (lw_at lw_m4 60 rfl) rfl
theorem q930 : (Jvm.Cond.soleField "OutwardDoors$Both" "b") ∈ lw_all := lw_g (lw_at lw_m4 61 rfl) rfl
theorem q931 : (Jvm.Cond.laysFinal "OutwardDoors$Both" "OutwardDoors$Both" "or" "Z") ∈ lw_all := lw_g (lw_at lw_m4 62 rfl) rfl
theorem q932 : (Jvm.Cond.soleField "OutwardDoors$Both" "or") ∈ lw_all := lw_g (lw_at lw_m4 63 rfl) rfl
theorem q933 : (Jvm.Cond.superclass "OutwardDoors$Both" "OutwardDoors$Condition") ∈ lw_all := lw_g (lw_at lw_m4 64 rfl) rfl
theorem q1083 : (Jvm.Cond.selects "OutwardDoors$Both" ({ cls := "OutwardDoors$Condition", name := "is", desc := "([J)Z" } : Jvm.MethodName) ({ cls := "OutwardDoors$Both", name := "is", desc := "([J)Z" } : Jvm.MethodName)) ∈ lw_all := lw_g (lw_at lw_m4 214 rfl) rfl
theorem q1084 : (Jvm.Cond.instanceMethod ({ cls := "OutwardDoors$Both", name := "is", desc := "([J)Z" } : Jvm.MethodName)) ∈ lw_all := lw_g (lw_at lw_m4 215 rfl) rfl
theorem q1085 : (Jvm.Cond.code ({ cls := "OutwardDoors$Both", name := "is", desc := "([J)Z" } : Jvm.MethodName) prog_3_method_2_code (2 : Nat) (Option.some Jvm.ClassFile.FieldType.boolean)) ∈ lw_all := lw_g (lw_at lw_m4 216 rfl) rfl
theorem q1086 : (Jvm.Cond.methodLink "OutwardDoors$Both" (20 : Nat) ({ cls := "OutwardDoors$Condition", name := "is", desc := "([J)Z" } : Jvm.MethodName)) ∈ lw_all := lw_g (lw_at lw_m4 217 rfl) rfl
theorem q2021 : (Jvm.Cond.castable "OutwardDoors$Both" "java/lang/Object") ∈ lw_tbl := lw_at lw_m8 192 rfl
theorem in_X17 : ∀ w ∈ wsX170, w ∈ lw_all := lw_in wsX170 [927, 929, 931] (by decide +kernel) (by decide +kernel)

/-! OutwardDoors$Image -/
set_option maxRecDepth 100000
def RX18 : String := "OutwardDoors$Image"
def TX18 : u_T := fun k => match k with
  | 0 => ("OutwardDoors$Image", "its", "LOutwardDoors$Castle;", false)
  | 1 => ("OutwardDoors$Image", "stood", "LOutwardDoors$State;", true)
  | 2 => ("OutwardDoors$Image", "when", "[I", true)
  | 3 => ("OutwardDoors$Image", "who", "[I", true)
  | 4 => ("OutwardDoors$Image", "where", "[I", true)
  | 5 => ("OutwardDoors$Image", "many", "I", false)
  | 6 => ("OutwardDoors$Image", "force", "I", false)
  | 7 => ("OutwardDoors$Image", "x", "I", false)
  | _ => ("OutwardDoors$Image", "this$0", "LOutwardDoors;", true)
def tyX18 : Nat → FieldType := fun k => match k with
  | 0 => .object "OutwardDoors$Castle"
  | 1 => .object "OutwardDoors$State"
  | 2 => .array .int
  | 3 => .array .int
  | 4 => .array .int
  | 5 => .int
  | 6 => .int
  | 7 => .int
  | _ => .object "OutwardDoors"
abbrev wsX180 : List Cond := u_ws RX18 TX18 9
theorem nmX18 : ∀ a, a < 9 → ∀ b, b < 9 → a ≠ b → (TX18 a).2.1 ≠ (TX18 b).2.1 := by decide +kernel
theorem tyX18_ok : ∀ k, k < 9 → parseFieldDescriptor (TX18 k).2.2.1 = some (tyX18 k) := by decide +kernel
abbrev cX18_init : ByteArray := prog_8_method_1_code
def yX18_init : MethodName := ⟨RX18, "<init>", "(LOutwardDoors;)V"⟩
def dkwX18_init_1 : List UInt8 := [188, 10, 181, 0, 22, 42, 16, 10, 188, 10, 181, 0, 26, 42, 16, 10, 188, 10, 181, 0, 29, 177]
abbrev dktX18_init_1 : List UInt8 := dkwX18_init_1 ++ []
def dkwX18_init_0 : List UInt8 := [42, 43, 181, 0, 3, 42, 183, 0, 9, 42, 187, 0, 15, 89, 183, 0, 17, 181, 0, 18, 42, 16, 10]
abbrev dktX18_init_0 : List UInt8 := dkwX18_init_0 ++ dktX18_init_1
theorem dksX18_init_0 : cX18_init.data.toList.drop 0 = dktX18_init_0 := by decide +kernel
theorem dksX18_init_1 : cX18_init.data.toList.drop 23 = dktX18_init_1 := dk_seg dksX18_init_0 23 rfl rfl
theorem dX18_init_0 : decode cX18_init 0 = .ok (.aload_n 0, 1) := dk_42 (dk_at dksX18_init_0 0 rfl rfl)
theorem dX18_init_1 : decode cX18_init 1 = .ok (.aload_n 1, 1) := dk_43 (dk_at dksX18_init_0 1 rfl rfl)
theorem dX18_init_2 : decode cX18_init 2 = .ok (.putfield 3, 3) := dk_181 0 3 (dk_at dksX18_init_0 2 rfl rfl)
theorem dX18_init_5 : decode cX18_init 5 = .ok (.aload_n 0, 1) := dk_42 (dk_at dksX18_init_0 5 rfl rfl)
theorem dX18_init_6 : decode cX18_init 6 = .ok (.invokespecial 9, 3) := dk_183 0 9 (dk_at dksX18_init_0 6 rfl rfl)
theorem dX18_init_9 : decode cX18_init 9 = .ok (.aload_n 0, 1) := dk_42 (dk_at dksX18_init_0 9 rfl rfl)
theorem dX18_init_10 : decode cX18_init 10 = .ok (.new 15, 3) := dk_187 0 15 (dk_at dksX18_init_0 10 rfl rfl)
theorem dX18_init_13 : decode cX18_init 13 = .ok (.dup, 1) := dk_89 (dk_at dksX18_init_0 13 rfl rfl)
theorem dX18_init_14 : decode cX18_init 14 = .ok (.invokespecial 17, 3) := dk_183 0 17 (dk_at dksX18_init_0 14 rfl rfl)
theorem dX18_init_17 : decode cX18_init 17 = .ok (.putfield 18, 3) := dk_181 0 18 (dk_at dksX18_init_0 17 rfl rfl)
theorem dX18_init_20 : decode cX18_init 20 = .ok (.aload_n 0, 1) := dk_42 (dk_at dksX18_init_0 20 rfl rfl)
theorem dX18_init_21 : decode cX18_init 21 = .ok (.bipush 10, 2) := dk_16 10 (dk_at dksX18_init_0 21 rfl rfl)
theorem dX18_init_23 : decode cX18_init 23 = .ok (.newarray .int, 2) := dk_188_10 (dk_at dksX18_init_1 0 rfl rfl)
theorem dX18_init_25 : decode cX18_init 25 = .ok (.putfield 22, 3) := dk_181 0 22 (dk_at dksX18_init_1 2 rfl rfl)
theorem dX18_init_28 : decode cX18_init 28 = .ok (.aload_n 0, 1) := dk_42 (dk_at dksX18_init_1 5 rfl rfl)
theorem dX18_init_29 : decode cX18_init 29 = .ok (.bipush 10, 2) := dk_16 10 (dk_at dksX18_init_1 6 rfl rfl)
theorem dX18_init_31 : decode cX18_init 31 = .ok (.newarray .int, 2) := dk_188_10 (dk_at dksX18_init_1 8 rfl rfl)
theorem dX18_init_33 : decode cX18_init 33 = .ok (.putfield 26, 3) := dk_181 0 26 (dk_at dksX18_init_1 10 rfl rfl)
theorem dX18_init_36 : decode cX18_init 36 = .ok (.aload_n 0, 1) := dk_42 (dk_at dksX18_init_1 13 rfl rfl)
theorem dX18_init_37 : decode cX18_init 37 = .ok (.bipush 10, 2) := dk_16 10 (dk_at dksX18_init_1 14 rfl rfl)
theorem dX18_init_39 : decode cX18_init 39 = .ok (.newarray .int, 2) := dk_188_10 (dk_at dksX18_init_1 16 rfl rfl)
theorem dX18_init_41 : decode cX18_init 41 = .ok (.putfield 29, 3) := dk_181 0 29 (dk_at dksX18_init_1 18 rfl rfl)
theorem dX18_init_44 : decode cX18_init 44 = .ok (.return_, 1) := dk_177 (dk_at dksX18_init_1 21 rfl rfl)
abbrev cX18_keep : ByteArray := prog_8_method_2_code
def yX18_keep : MethodName := ⟨RX18, "keep", "()V"⟩
def dkwX18_keep_5 : List UInt8 := [181, 0, 71, 177]
abbrev dktX18_keep_5 : List UInt8 := dkwX18_keep_5 ++ []
def dkwX18_keep_4 : List UInt8 := [181, 0, 59, 42, 42, 180, 0, 3, 180, 0, 62, 181, 0, 65, 42, 42, 180, 0, 3, 180, 0, 68]
abbrev dktX18_keep_4 : List UInt8 := dkwX18_keep_4 ++ dktX18_keep_5
def dkwX18_keep_3 : List UInt8 := [180, 0, 3, 180, 0, 52, 27, 46, 79, 132, 1, 1, 167, 255, 202, 42, 42, 180, 0, 3, 180, 0, 55]
abbrev dktX18_keep_3 : List UInt8 := dkwX18_keep_3 ++ dktX18_keep_4
def dkwX18_keep_2 : List UInt8 := [46, 79, 42, 180, 0, 26, 27, 42, 180, 0, 3, 180, 0, 49, 27, 46, 79, 42, 180, 0, 29, 27, 42]
abbrev dktX18_keep_2 : List UInt8 := dkwX18_keep_2 ++ dktX18_keep_3
def dkwX18_keep_1 : List UInt8 := [182, 0, 42, 3, 60, 27, 16, 10, 162, 0, 54, 42, 180, 0, 22, 27, 42, 180, 0, 3, 180, 0, 46, 27]
abbrev dktX18_keep_1 : List UInt8 := dkwX18_keep_1 ++ dktX18_keep_2
def dkwX18_keep_0 : List UInt8 := [42, 42, 180, 0, 3, 180, 0, 32, 181, 0, 36, 42, 180, 0, 18, 42, 180, 0, 3, 180, 0, 39]
abbrev dktX18_keep_0 : List UInt8 := dkwX18_keep_0 ++ dktX18_keep_1
theorem dksX18_keep_0 : cX18_keep.data.toList.drop 0 = dktX18_keep_0 := by decide +kernel
theorem dksX18_keep_1 : cX18_keep.data.toList.drop 22 = dktX18_keep_1 := dk_seg dksX18_keep_0 22 rfl rfl
theorem dksX18_keep_2 : cX18_keep.data.toList.drop 46 = dktX18_keep_2 := dk_seg dksX18_keep_1 24 rfl rfl
theorem dksX18_keep_3 : cX18_keep.data.toList.drop 69 = dktX18_keep_3 := dk_seg dksX18_keep_2 23 rfl rfl
theorem dksX18_keep_4 : cX18_keep.data.toList.drop 92 = dktX18_keep_4 := dk_seg dksX18_keep_3 23 rfl rfl
theorem dksX18_keep_5 : cX18_keep.data.toList.drop 114 = dktX18_keep_5 := dk_seg dksX18_keep_4 22 rfl rfl
theorem dX18_keep_0 : decode cX18_keep 0 = .ok (.aload_n 0, 1) := dk_42 (dk_at dksX18_keep_0 0 rfl rfl)
theorem dX18_keep_1 : decode cX18_keep 1 = .ok (.aload_n 0, 1) := dk_42 (dk_at dksX18_keep_0 1 rfl rfl)
theorem dX18_keep_2 : decode cX18_keep 2 = .ok (.getfield 3, 3) := dk_180 0 3 (dk_at dksX18_keep_0 2 rfl rfl)
theorem dX18_keep_5 : decode cX18_keep 5 = .ok (.getfield 32, 3) := dk_180 0 32 (dk_at dksX18_keep_0 5 rfl rfl)
theorem dX18_keep_8 : decode cX18_keep 8 = .ok (.putfield 36, 3) := dk_181 0 36 (dk_at dksX18_keep_0 8 rfl rfl)
theorem dX18_keep_11 : decode cX18_keep 11 = .ok (.aload_n 0, 1) := dk_42 (dk_at dksX18_keep_0 11 rfl rfl)
theorem dX18_keep_12 : decode cX18_keep 12 = .ok (.getfield 18, 3) := dk_180 0 18 (dk_at dksX18_keep_0 12 rfl rfl)
theorem dX18_keep_15 : decode cX18_keep 15 = .ok (.aload_n 0, 1) := dk_42 (dk_at dksX18_keep_0 15 rfl rfl)
theorem dX18_keep_16 : decode cX18_keep 16 = .ok (.getfield 3, 3) := dk_180 0 3 (dk_at dksX18_keep_0 16 rfl rfl)
theorem dX18_keep_19 : decode cX18_keep 19 = .ok (.getfield 39, 3) := dk_180 0 39 (dk_at dksX18_keep_0 19 rfl rfl)
theorem dX18_keep_22 : decode cX18_keep 22 = .ok (.invokevirtual 42, 3) := dk_182 0 42 (dk_at dksX18_keep_1 0 rfl rfl)
theorem dX18_keep_25 : decode cX18_keep 25 = .ok (.iconst 0, 1) := dk_3 (dk_at dksX18_keep_1 3 rfl rfl)
theorem dX18_keep_26 : decode cX18_keep 26 = .ok (.istore_n 1, 1) := dk_60 (dk_at dksX18_keep_1 4 rfl rfl)
theorem dX18_keep_27 : decode cX18_keep 27 = .ok (.iload_n 1, 1) := dk_27 (dk_at dksX18_keep_1 5 rfl rfl)
theorem dX18_keep_28 : decode cX18_keep 28 = .ok (.bipush 10, 2) := dk_16 10 (dk_at dksX18_keep_1 6 rfl rfl)
theorem dX18_keep_30 : decode cX18_keep 30 = .ok (.if_icmp .ge 54, 3) := dk_162 0 54 (dk_at dksX18_keep_1 8 rfl rfl)
theorem dX18_keep_33 : decode cX18_keep 33 = .ok (.aload_n 0, 1) := dk_42 (dk_at dksX18_keep_1 11 rfl rfl)
theorem dX18_keep_34 : decode cX18_keep 34 = .ok (.getfield 22, 3) := dk_180 0 22 (dk_at dksX18_keep_1 12 rfl rfl)
theorem dX18_keep_37 : decode cX18_keep 37 = .ok (.iload_n 1, 1) := dk_27 (dk_at dksX18_keep_1 15 rfl rfl)
theorem dX18_keep_38 : decode cX18_keep 38 = .ok (.aload_n 0, 1) := dk_42 (dk_at dksX18_keep_1 16 rfl rfl)
theorem dX18_keep_39 : decode cX18_keep 39 = .ok (.getfield 3, 3) := dk_180 0 3 (dk_at dksX18_keep_1 17 rfl rfl)
theorem dX18_keep_42 : decode cX18_keep 42 = .ok (.getfield 46, 3) := dk_180 0 46 (dk_at dksX18_keep_1 20 rfl rfl)
theorem dX18_keep_45 : decode cX18_keep 45 = .ok (.iload_n 1, 1) := dk_27 (dk_at dksX18_keep_1 23 rfl rfl)
theorem dX18_keep_46 : decode cX18_keep 46 = .ok (.iaload, 1) := dk_46 (dk_at dksX18_keep_2 0 rfl rfl)
theorem dX18_keep_47 : decode cX18_keep 47 = .ok (.iastore, 1) := dk_79 (dk_at dksX18_keep_2 1 rfl rfl)
theorem dX18_keep_48 : decode cX18_keep 48 = .ok (.aload_n 0, 1) := dk_42 (dk_at dksX18_keep_2 2 rfl rfl)
theorem dX18_keep_49 : decode cX18_keep 49 = .ok (.getfield 26, 3) := dk_180 0 26 (dk_at dksX18_keep_2 3 rfl rfl)
theorem dX18_keep_52 : decode cX18_keep 52 = .ok (.iload_n 1, 1) := dk_27 (dk_at dksX18_keep_2 6 rfl rfl)
theorem dX18_keep_53 : decode cX18_keep 53 = .ok (.aload_n 0, 1) := dk_42 (dk_at dksX18_keep_2 7 rfl rfl)
theorem dX18_keep_54 : decode cX18_keep 54 = .ok (.getfield 3, 3) := dk_180 0 3 (dk_at dksX18_keep_2 8 rfl rfl)
theorem dX18_keep_57 : decode cX18_keep 57 = .ok (.getfield 49, 3) := dk_180 0 49 (dk_at dksX18_keep_2 11 rfl rfl)
theorem dX18_keep_60 : decode cX18_keep 60 = .ok (.iload_n 1, 1) := dk_27 (dk_at dksX18_keep_2 14 rfl rfl)
theorem dX18_keep_61 : decode cX18_keep 61 = .ok (.iaload, 1) := dk_46 (dk_at dksX18_keep_2 15 rfl rfl)
theorem dX18_keep_62 : decode cX18_keep 62 = .ok (.iastore, 1) := dk_79 (dk_at dksX18_keep_2 16 rfl rfl)
theorem dX18_keep_63 : decode cX18_keep 63 = .ok (.aload_n 0, 1) := dk_42 (dk_at dksX18_keep_2 17 rfl rfl)
theorem dX18_keep_64 : decode cX18_keep 64 = .ok (.getfield 29, 3) := dk_180 0 29 (dk_at dksX18_keep_2 18 rfl rfl)
theorem dX18_keep_67 : decode cX18_keep 67 = .ok (.iload_n 1, 1) := dk_27 (dk_at dksX18_keep_2 21 rfl rfl)
theorem dX18_keep_68 : decode cX18_keep 68 = .ok (.aload_n 0, 1) := dk_42 (dk_at dksX18_keep_2 22 rfl rfl)
theorem dX18_keep_69 : decode cX18_keep 69 = .ok (.getfield 3, 3) := dk_180 0 3 (dk_at dksX18_keep_3 0 rfl rfl)
theorem dX18_keep_72 : decode cX18_keep 72 = .ok (.getfield 52, 3) := dk_180 0 52 (dk_at dksX18_keep_3 3 rfl rfl)
theorem dX18_keep_75 : decode cX18_keep 75 = .ok (.iload_n 1, 1) := dk_27 (dk_at dksX18_keep_3 6 rfl rfl)
theorem dX18_keep_76 : decode cX18_keep 76 = .ok (.iaload, 1) := dk_46 (dk_at dksX18_keep_3 7 rfl rfl)
theorem dX18_keep_77 : decode cX18_keep 77 = .ok (.iastore, 1) := dk_79 (dk_at dksX18_keep_3 8 rfl rfl)
theorem dX18_keep_78 : decode cX18_keep 78 = .ok (.iinc 1 1, 3) := dk_132 1 1 (dk_at dksX18_keep_3 9 rfl rfl)
theorem dX18_keep_81 : decode cX18_keep 81 = .ok (.goto (-54), 3) := dk_167 255 202 (dk_at dksX18_keep_3 12 rfl rfl)
theorem dX18_keep_84 : decode cX18_keep 84 = .ok (.aload_n 0, 1) := dk_42 (dk_at dksX18_keep_3 15 rfl rfl)
theorem dX18_keep_85 : decode cX18_keep 85 = .ok (.aload_n 0, 1) := dk_42 (dk_at dksX18_keep_3 16 rfl rfl)
theorem dX18_keep_86 : decode cX18_keep 86 = .ok (.getfield 3, 3) := dk_180 0 3 (dk_at dksX18_keep_3 17 rfl rfl)
theorem dX18_keep_89 : decode cX18_keep 89 = .ok (.getfield 55, 3) := dk_180 0 55 (dk_at dksX18_keep_3 20 rfl rfl)
theorem dX18_keep_92 : decode cX18_keep 92 = .ok (.putfield 59, 3) := dk_181 0 59 (dk_at dksX18_keep_4 0 rfl rfl)
theorem dX18_keep_95 : decode cX18_keep 95 = .ok (.aload_n 0, 1) := dk_42 (dk_at dksX18_keep_4 3 rfl rfl)
theorem dX18_keep_96 : decode cX18_keep 96 = .ok (.aload_n 0, 1) := dk_42 (dk_at dksX18_keep_4 4 rfl rfl)
theorem dX18_keep_97 : decode cX18_keep 97 = .ok (.getfield 3, 3) := dk_180 0 3 (dk_at dksX18_keep_4 5 rfl rfl)
theorem dX18_keep_100 : decode cX18_keep 100 = .ok (.getfield 62, 3) := dk_180 0 62 (dk_at dksX18_keep_4 8 rfl rfl)
theorem dX18_keep_103 : decode cX18_keep 103 = .ok (.putfield 65, 3) := dk_181 0 65 (dk_at dksX18_keep_4 11 rfl rfl)
theorem dX18_keep_106 : decode cX18_keep 106 = .ok (.aload_n 0, 1) := dk_42 (dk_at dksX18_keep_4 14 rfl rfl)
theorem dX18_keep_107 : decode cX18_keep 107 = .ok (.aload_n 0, 1) := dk_42 (dk_at dksX18_keep_4 15 rfl rfl)
theorem dX18_keep_108 : decode cX18_keep 108 = .ok (.getfield 3, 3) := dk_180 0 3 (dk_at dksX18_keep_4 16 rfl rfl)
theorem dX18_keep_111 : decode cX18_keep 111 = .ok (.getfield 68, 3) := dk_180 0 68 (dk_at dksX18_keep_4 19 rfl rfl)
theorem dX18_keep_114 : decode cX18_keep 114 = .ok (.putfield 71, 3) := dk_181 0 71 (dk_at dksX18_keep_5 0 rfl rfl)
theorem dX18_keep_117 : decode cX18_keep 117 = .ok (.return_, 1) := dk_177 (dk_at dksX18_keep_5 3 rfl rfl)
abbrev cX18_back : ByteArray := prog_8_method_3_code
def yX18_back : MethodName := ⟨RX18, "back", "()V"⟩
def dkwX18_back_5 : List UInt8 := [181, 0, 68, 42, 180, 0, 3, 3, 181, 0, 74, 177]
abbrev dktX18_back_5 : List UInt8 := dkwX18_back_5 ++ []
def dkwX18_back_4 : List UInt8 := [181, 0, 55, 42, 180, 0, 3, 42, 180, 0, 65, 181, 0, 62, 42, 180, 0, 3, 42, 180, 0, 71]
abbrev dktX18_back_4 : List UInt8 := dkwX18_back_4 ++ dktX18_back_5
def dkwX18_back_3 : List UInt8 := [27, 42, 180, 0, 29, 27, 46, 79, 132, 1, 1, 167, 255, 202, 42, 180, 0, 3, 42, 180, 0, 59]
abbrev dktX18_back_3 : List UInt8 := dkwX18_back_3 ++ dktX18_back_4
def dkwX18_back_2 : List UInt8 := [46, 79, 42, 180, 0, 3, 180, 0, 49, 27, 42, 180, 0, 26, 27, 46, 79, 42, 180, 0, 3, 180, 0, 52]
abbrev dktX18_back_2 : List UInt8 := dkwX18_back_2 ++ dktX18_back_3
def dkwX18_back_1 : List UInt8 := [182, 0, 42, 3, 60, 27, 16, 10, 162, 0, 54, 42, 180, 0, 3, 180, 0, 46, 27, 42, 180, 0, 22, 27]
abbrev dktX18_back_1 : List UInt8 := dkwX18_back_1 ++ dktX18_back_2
def dkwX18_back_0 : List UInt8 := [42, 180, 0, 3, 42, 180, 0, 36, 181, 0, 32, 42, 180, 0, 3, 180, 0, 39, 42, 180, 0, 18]
abbrev dktX18_back_0 : List UInt8 := dkwX18_back_0 ++ dktX18_back_1
theorem dksX18_back_0 : cX18_back.data.toList.drop 0 = dktX18_back_0 := by decide +kernel
theorem dksX18_back_1 : cX18_back.data.toList.drop 22 = dktX18_back_1 := dk_seg dksX18_back_0 22 rfl rfl
theorem dksX18_back_2 : cX18_back.data.toList.drop 46 = dktX18_back_2 := dk_seg dksX18_back_1 24 rfl rfl
theorem dksX18_back_3 : cX18_back.data.toList.drop 70 = dktX18_back_3 := dk_seg dksX18_back_2 24 rfl rfl
theorem dksX18_back_4 : cX18_back.data.toList.drop 92 = dktX18_back_4 := dk_seg dksX18_back_3 22 rfl rfl
theorem dksX18_back_5 : cX18_back.data.toList.drop 114 = dktX18_back_5 := dk_seg dksX18_back_4 22 rfl rfl
theorem dX18_back_0 : decode cX18_back 0 = .ok (.aload_n 0, 1) := dk_42 (dk_at dksX18_back_0 0 rfl rfl)
theorem dX18_back_1 : decode cX18_back 1 = .ok (.getfield 3, 3) := dk_180 0 3 (dk_at dksX18_back_0 1 rfl rfl)
theorem dX18_back_4 : decode cX18_back 4 = .ok (.aload_n 0, 1) := dk_42 (dk_at dksX18_back_0 4 rfl rfl)
theorem dX18_back_5 : decode cX18_back 5 = .ok (.getfield 36, 3) := dk_180 0 36 (dk_at dksX18_back_0 5 rfl rfl)
theorem dX18_back_8 : decode cX18_back 8 = .ok (.putfield 32, 3) := dk_181 0 32 (dk_at dksX18_back_0 8 rfl rfl)
theorem dX18_back_11 : decode cX18_back 11 = .ok (.aload_n 0, 1) := dk_42 (dk_at dksX18_back_0 11 rfl rfl)
theorem dX18_back_12 : decode cX18_back 12 = .ok (.getfield 3, 3) := dk_180 0 3 (dk_at dksX18_back_0 12 rfl rfl)
theorem dX18_back_15 : decode cX18_back 15 = .ok (.getfield 39, 3) := dk_180 0 39 (dk_at dksX18_back_0 15 rfl rfl)
theorem dX18_back_18 : decode cX18_back 18 = .ok (.aload_n 0, 1) := dk_42 (dk_at dksX18_back_0 18 rfl rfl)
theorem dX18_back_19 : decode cX18_back 19 = .ok (.getfield 18, 3) := dk_180 0 18 (dk_at dksX18_back_0 19 rfl rfl)
theorem dX18_back_22 : decode cX18_back 22 = .ok (.invokevirtual 42, 3) := dk_182 0 42 (dk_at dksX18_back_1 0 rfl rfl)
theorem dX18_back_25 : decode cX18_back 25 = .ok (.iconst 0, 1) := dk_3 (dk_at dksX18_back_1 3 rfl rfl)
theorem dX18_back_26 : decode cX18_back 26 = .ok (.istore_n 1, 1) := dk_60 (dk_at dksX18_back_1 4 rfl rfl)
theorem dX18_back_27 : decode cX18_back 27 = .ok (.iload_n 1, 1) := dk_27 (dk_at dksX18_back_1 5 rfl rfl)
theorem dX18_back_28 : decode cX18_back 28 = .ok (.bipush 10, 2) := dk_16 10 (dk_at dksX18_back_1 6 rfl rfl)
theorem dX18_back_30 : decode cX18_back 30 = .ok (.if_icmp .ge 54, 3) := dk_162 0 54 (dk_at dksX18_back_1 8 rfl rfl)
theorem dX18_back_33 : decode cX18_back 33 = .ok (.aload_n 0, 1) := dk_42 (dk_at dksX18_back_1 11 rfl rfl)
theorem dX18_back_34 : decode cX18_back 34 = .ok (.getfield 3, 3) := dk_180 0 3 (dk_at dksX18_back_1 12 rfl rfl)
theorem dX18_back_37 : decode cX18_back 37 = .ok (.getfield 46, 3) := dk_180 0 46 (dk_at dksX18_back_1 15 rfl rfl)
theorem dX18_back_40 : decode cX18_back 40 = .ok (.iload_n 1, 1) := dk_27 (dk_at dksX18_back_1 18 rfl rfl)
theorem dX18_back_41 : decode cX18_back 41 = .ok (.aload_n 0, 1) := dk_42 (dk_at dksX18_back_1 19 rfl rfl)
theorem dX18_back_42 : decode cX18_back 42 = .ok (.getfield 22, 3) := dk_180 0 22 (dk_at dksX18_back_1 20 rfl rfl)
theorem dX18_back_45 : decode cX18_back 45 = .ok (.iload_n 1, 1) := dk_27 (dk_at dksX18_back_1 23 rfl rfl)
theorem dX18_back_46 : decode cX18_back 46 = .ok (.iaload, 1) := dk_46 (dk_at dksX18_back_2 0 rfl rfl)
theorem dX18_back_47 : decode cX18_back 47 = .ok (.iastore, 1) := dk_79 (dk_at dksX18_back_2 1 rfl rfl)
theorem dX18_back_48 : decode cX18_back 48 = .ok (.aload_n 0, 1) := dk_42 (dk_at dksX18_back_2 2 rfl rfl)
theorem dX18_back_49 : decode cX18_back 49 = .ok (.getfield 3, 3) := dk_180 0 3 (dk_at dksX18_back_2 3 rfl rfl)
theorem dX18_back_52 : decode cX18_back 52 = .ok (.getfield 49, 3) := dk_180 0 49 (dk_at dksX18_back_2 6 rfl rfl)
theorem dX18_back_55 : decode cX18_back 55 = .ok (.iload_n 1, 1) := dk_27 (dk_at dksX18_back_2 9 rfl rfl)
theorem dX18_back_56 : decode cX18_back 56 = .ok (.aload_n 0, 1) := dk_42 (dk_at dksX18_back_2 10 rfl rfl)
theorem dX18_back_57 : decode cX18_back 57 = .ok (.getfield 26, 3) := dk_180 0 26 (dk_at dksX18_back_2 11 rfl rfl)
theorem dX18_back_60 : decode cX18_back 60 = .ok (.iload_n 1, 1) := dk_27 (dk_at dksX18_back_2 14 rfl rfl)
theorem dX18_back_61 : decode cX18_back 61 = .ok (.iaload, 1) := dk_46 (dk_at dksX18_back_2 15 rfl rfl)
theorem dX18_back_62 : decode cX18_back 62 = .ok (.iastore, 1) := dk_79 (dk_at dksX18_back_2 16 rfl rfl)
theorem dX18_back_63 : decode cX18_back 63 = .ok (.aload_n 0, 1) := dk_42 (dk_at dksX18_back_2 17 rfl rfl)
theorem dX18_back_64 : decode cX18_back 64 = .ok (.getfield 3, 3) := dk_180 0 3 (dk_at dksX18_back_2 18 rfl rfl)
theorem dX18_back_67 : decode cX18_back 67 = .ok (.getfield 52, 3) := dk_180 0 52 (dk_at dksX18_back_2 21 rfl rfl)
theorem dX18_back_70 : decode cX18_back 70 = .ok (.iload_n 1, 1) := dk_27 (dk_at dksX18_back_3 0 rfl rfl)
theorem dX18_back_71 : decode cX18_back 71 = .ok (.aload_n 0, 1) := dk_42 (dk_at dksX18_back_3 1 rfl rfl)
theorem dX18_back_72 : decode cX18_back 72 = .ok (.getfield 29, 3) := dk_180 0 29 (dk_at dksX18_back_3 2 rfl rfl)
theorem dX18_back_75 : decode cX18_back 75 = .ok (.iload_n 1, 1) := dk_27 (dk_at dksX18_back_3 5 rfl rfl)
theorem dX18_back_76 : decode cX18_back 76 = .ok (.iaload, 1) := dk_46 (dk_at dksX18_back_3 6 rfl rfl)
theorem dX18_back_77 : decode cX18_back 77 = .ok (.iastore, 1) := dk_79 (dk_at dksX18_back_3 7 rfl rfl)
theorem dX18_back_78 : decode cX18_back 78 = .ok (.iinc 1 1, 3) := dk_132 1 1 (dk_at dksX18_back_3 8 rfl rfl)
theorem dX18_back_81 : decode cX18_back 81 = .ok (.goto (-54), 3) := dk_167 255 202 (dk_at dksX18_back_3 11 rfl rfl)
theorem dX18_back_84 : decode cX18_back 84 = .ok (.aload_n 0, 1) := dk_42 (dk_at dksX18_back_3 14 rfl rfl)
theorem dX18_back_85 : decode cX18_back 85 = .ok (.getfield 3, 3) := dk_180 0 3 (dk_at dksX18_back_3 15 rfl rfl)
theorem dX18_back_88 : decode cX18_back 88 = .ok (.aload_n 0, 1) := dk_42 (dk_at dksX18_back_3 18 rfl rfl)
theorem dX18_back_89 : decode cX18_back 89 = .ok (.getfield 59, 3) := dk_180 0 59 (dk_at dksX18_back_3 19 rfl rfl)
theorem dX18_back_92 : decode cX18_back 92 = .ok (.putfield 55, 3) := dk_181 0 55 (dk_at dksX18_back_4 0 rfl rfl)
theorem dX18_back_95 : decode cX18_back 95 = .ok (.aload_n 0, 1) := dk_42 (dk_at dksX18_back_4 3 rfl rfl)
theorem dX18_back_96 : decode cX18_back 96 = .ok (.getfield 3, 3) := dk_180 0 3 (dk_at dksX18_back_4 4 rfl rfl)
theorem dX18_back_99 : decode cX18_back 99 = .ok (.aload_n 0, 1) := dk_42 (dk_at dksX18_back_4 7 rfl rfl)
theorem dX18_back_100 : decode cX18_back 100 = .ok (.getfield 65, 3) := dk_180 0 65 (dk_at dksX18_back_4 8 rfl rfl)
theorem dX18_back_103 : decode cX18_back 103 = .ok (.putfield 62, 3) := dk_181 0 62 (dk_at dksX18_back_4 11 rfl rfl)
theorem dX18_back_106 : decode cX18_back 106 = .ok (.aload_n 0, 1) := dk_42 (dk_at dksX18_back_4 14 rfl rfl)
theorem dX18_back_107 : decode cX18_back 107 = .ok (.getfield 3, 3) := dk_180 0 3 (dk_at dksX18_back_4 15 rfl rfl)
theorem dX18_back_110 : decode cX18_back 110 = .ok (.aload_n 0, 1) := dk_42 (dk_at dksX18_back_4 18 rfl rfl)
theorem dX18_back_111 : decode cX18_back 111 = .ok (.getfield 71, 3) := dk_180 0 71 (dk_at dksX18_back_4 19 rfl rfl)
theorem dX18_back_114 : decode cX18_back 114 = .ok (.putfield 68, 3) := dk_181 0 68 (dk_at dksX18_back_5 0 rfl rfl)
theorem dX18_back_117 : decode cX18_back 117 = .ok (.aload_n 0, 1) := dk_42 (dk_at dksX18_back_5 3 rfl rfl)
theorem dX18_back_118 : decode cX18_back 118 = .ok (.getfield 3, 3) := dk_180 0 3 (dk_at dksX18_back_5 4 rfl rfl)
theorem dX18_back_121 : decode cX18_back 121 = .ok (.iconst 0, 1) := dk_3 (dk_at dksX18_back_5 7 rfl rfl)
theorem dX18_back_122 : decode cX18_back 122 = .ok (.putfield 74, 3) := dk_181 0 74 (dk_at dksX18_back_5 8 rfl rfl)
theorem dX18_back_125 : decode cX18_back 125 = .ok (.return_, 1) := dk_177 (dk_at dksX18_back_5 11 rfl rfl)
theorem q184 : (Jvm.Cond.initialized "OutwardDoors$Image") ∈ lw_all := lw_g (lw_at lw_m1 35 rfl) rfl
theorem q358 : (Jvm.Cond.fieldLinkNest "OutwardDoors$Image" (32 : Nat) "OutwardDoors" "castle" "LOutwardDoors$Castle;" "OutwardDoors") ∈ lw_tbl := lw_at lw_m1 209 rfl
theorem q360 : (Jvm.Cond.fieldLinkNest "OutwardDoors$Image" (39 : Nat) "OutwardDoors" "state" "LOutwardDoors$State;" "OutwardDoors") ∈ lw_tbl := lw_at lw_m1 211 rfl
theorem q365 : (Jvm.Cond.fieldLinkNest "OutwardDoors$Image" (62 : Nat) "OutwardDoors" "inForce" "I" "OutwardDoors") ∈ lw_tbl := lw_at lw_m1 216 rfl
theorem q372 : (Jvm.Cond.fieldLinkNest "OutwardDoors$Image" (46 : Nat) "OutwardDoors" "noteWhen" "[I" "OutwardDoors") ∈ lw_tbl := lw_at lw_m1 223 rfl
theorem q374 : (Jvm.Cond.fieldLinkNest "OutwardDoors$Image" (49 : Nat) "OutwardDoors" "noteWho" "[I" "OutwardDoors") ∈ lw_tbl := lw_at lw_m1 225 rfl
theorem q376 : (Jvm.Cond.fieldLinkNest "OutwardDoors$Image" (52 : Nat) "OutwardDoors" "noteRoom" "[I" "OutwardDoors") ∈ lw_tbl := lw_at lw_m1 227 rfl
theorem q378 : (Jvm.Cond.fieldLinkNest "OutwardDoors$Image" (55 : Nat) "OutwardDoors" "noteMany" "I" "OutwardDoors") ∈ lw_tbl := lw_at lw_m1 229 rfl
theorem q380 : (Jvm.Cond.fieldLinkNest "OutwardDoors$Image" (68 : Nat) "OutwardDoors" "draw" "I" "OutwardDoors") ∈ lw_tbl := lw_at lw_m1 231 rfl
theorem q389 : (Jvm.Cond.fieldLinkNest "OutwardDoors$Image" (74 : Nat) "OutwardDoors" "pastMany" "I" "OutwardDoors") ∈ lw_tbl := lw_at lw_m2 0 rfl
theorem q707 : (Jvm.Cond.selects "OutwardDoors$Image" ({ cls := "java/lang/Object", name := "getClass", desc := "()Ljava/lang/Class;" } : Jvm.MethodName) ({ cls := "java/lang/Object", name := "getClass", desc := "()Ljava/lang/Class;" } : Jvm.MethodName)) ∈ lw_all := lw_g (lw_at lw_m3 78 rfl) rfl
theorem q1303 : (Jvm.Cond.instantiable "OutwardDoors$Image" (9 : Nat)) ∈ lw_all := lw_g (lw_at lw_m5 194 rfl) rfl
theorem q1305 : (Jvm.Cond.instanceMethod ({ cls := "OutwardDoors$Image", name := "<init>", desc := "(LOutwardDoors;)V" } : Jvm.MethodName)) ∈ lw_all := lw_g (lw_at lw_m5 196 rfl) rfl
theorem q1306 : (Jvm.Cond.code ({ cls := "OutwardDoors$Image", name := "<init>", desc := "(LOutwardDoors;)V" } : Jvm.MethodName) prog_8_method_1_code (2 : Nat) (Option.none : Option Jvm.ClassFile.FieldType)) ∈ lw_all := lw_g (lw_at lw_m5 197 rfl) rfl
theorem q1307 : (Jvm.Cond.methodLink "OutwardDoors$Image" (9 : Nat) ({ cls := "java/lang/Object", name := "<init>", desc := "()V" } : Jvm.MethodName)) ∈ lw_all := lw_g (lw_at lw_m5 198 rfl) rfl
theorem q1308 : (Jvm.Cond.classLink "OutwardDoors$Image" (15 : Nat) "OutwardDoors$State") ∈ lw_all := lw_g (lw_at lw_m5 199 rfl) rfl
theorem q1309 : (Jvm.Cond.methodLinkNest "OutwardDoors$Image" (17 : Nat) ({ cls := "OutwardDoors$State", name := "<init>", desc := "()V" } : Jvm.MethodName) "OutwardDoors") ∈ lw_tbl := lw_at lw_m5 200 rfl
theorem q1310 : (Jvm.Cond.fieldLink "OutwardDoors$Image" (36 : Nat) "OutwardDoors$Image" "its" "LOutwardDoors$Castle;") ∈ lw_all := lw_g (lw_at lw_m5 201 rfl) rfl
theorem q1311 : (Jvm.Cond.fieldLink "OutwardDoors$Image" (18 : Nat) "OutwardDoors$Image" "stood" "LOutwardDoors$State;") ∈ lw_all := lw_g (lw_at lw_m5 202 rfl) rfl
theorem q1312 : (Jvm.Cond.fieldLink "OutwardDoors$Image" (22 : Nat) "OutwardDoors$Image" "when" "[I") ∈ lw_all := lw_g (lw_at lw_m5 203 rfl) rfl
theorem q1313 : (Jvm.Cond.fieldLink "OutwardDoors$Image" (26 : Nat) "OutwardDoors$Image" "who" "[I") ∈ lw_all := lw_g (lw_at lw_m5 204 rfl) rfl
theorem q1314 : (Jvm.Cond.fieldLink "OutwardDoors$Image" (29 : Nat) "OutwardDoors$Image" "where" "[I") ∈ lw_all := lw_g (lw_at lw_m5 205 rfl) rfl
theorem q1315 : (Jvm.Cond.fieldLink "OutwardDoors$Image" (59 : Nat) "OutwardDoors$Image" "many" "I") ∈ lw_all := lw_g (lw_at lw_m5 206 rfl) rfl
theorem q1316 : (Jvm.Cond.fieldLink "OutwardDoors$Image" (65 : Nat) "OutwardDoors$Image" "force" "I") ∈ lw_all := lw_g (lw_at lw_m5 207 rfl) rfl
theorem q1317 : (Jvm.Cond.fieldLink "OutwardDoors$Image" (71 : Nat) "OutwardDoors$Image" "x" "I") ∈ lw_all := lw_g (lw_at lw_m5 208 rfl) rfl
theorem q1318 : (Jvm.Cond.fieldLink "OutwardDoors$Image" (3 : Nat) "OutwardDoors$Image" "this$0" "LOutwardDoors;") ∈ lw_all := lw_g (lw_at lw_m5 209 rfl) rfl
theorem q1319 : (Jvm.Cond.lays "OutwardDoors$Image" "OutwardDoors$Image" "its" "LOutwardDoors$Castle;") ∈ lw_all := lw_g (lw_at lw_m5 210 rfl) rfl
theorem q1320 : (Jvm.Cond.soleField "OutwardDoors$Image" "its") ∈ lw_all := lw_g (lw_at lw_m5 211 rfl) rfl
theorem q1321 : (Jvm.Cond.laysFinal "OutwardDoors$Image" "OutwardDoors$Image" "stood" "LOutwardDoors$State;") ∈ lw_all := lw_g (lw_at lw_m5 212 rfl) rfl
theorem q1322 : (Jvm.Cond.soleField "OutwardDoors$Image" "stood") ∈ lw_all := lw_g (lw_at lw_m5 213 rfl) rfl
theorem q1323 : (Jvm.Cond.laysFinal "OutwardDoors$Image" "OutwardDoors$Image" "when" "[I") ∈ lw_all := lw_g (lw_at lw_m5 214 rfl) rfl
theorem q1324 : (Jvm.Cond.soleField "OutwardDoors$Image" "when") ∈ lw_all := lw_g (lw_at lw_m5 215 rfl) rfl
theorem q1325 : (Jvm.Cond.laysFinal "OutwardDoors$Image" "OutwardDoors$Image" "who" "[I") ∈ lw_all := lw_g (lw_at lw_m5 216 rfl) rfl
theorem q1326 : (Jvm.Cond.soleField "OutwardDoors$Image" "who") ∈ lw_all := lw_g (lw_at lw_m5 217 rfl) rfl
theorem q1327 : (Jvm.Cond.laysFinal "OutwardDoors$Image" "OutwardDoors$Image" "where" "[I") ∈ lw_all := lw_g (lw_at lw_m5 218 rfl) rfl
theorem q1328 : (Jvm.Cond.soleField "OutwardDoors$Image" "where") ∈ lw_all := lw_g (lw_at lw_m5 219 rfl) rfl
theorem q1329 : (Jvm.Cond.lays "OutwardDoors$Image" "OutwardDoors$Image" "many" "I") ∈ lw_all := lw_g (lw_at lw_m5 220 rfl) rfl
theorem q1330 : (Jvm.Cond.soleField "OutwardDoors$Image" "many") ∈ lw_all := lw_g (lw_at lw_m5 221 rfl) rfl
theorem q1331 : (Jvm.Cond.lays "OutwardDoors$Image" "OutwardDoors$Image" "force" "I") ∈ lw_all := lw_g (lw_at lw_m5 222 rfl) rfl
theorem q1332 : (Jvm.Cond.soleField "OutwardDoors$Image" "force") ∈ lw_all := lw_g (lw_at lw_m5 223 rfl) rfl
theorem q1333 : (Jvm.Cond.lays "OutwardDoors$Image" "OutwardDoors$Image" "x" "I") ∈ lw_all := lw_g (lw_at lw_m5 224 rfl) rfl
theorem q1334 : (Jvm.Cond.soleField "OutwardDoors$Image" "x") ∈ lw_all := lw_g (lw_at lw_m5 225 rfl) rfl
theorem q1335 : (Jvm.Cond.laysFinal "OutwardDoors$Image" "OutwardDoors$Image" "this$0" "LOutwardDoors;") ∈ lw_all := lw_g (lw_at lw_m5 226 rfl) rfl
theorem q1336 : (Jvm.Cond.soleField "OutwardDoors$Image" "this$0") ∈ lw_all := lw_g (lw_at lw_m5 227 rfl) rfl
theorem q1337 : (Jvm.Cond.superclass "OutwardDoors$Image" "java/lang/Object") ∈ lw_all := lw_g (lw_at lw_m5 228 rfl) rfl
theorem q1339 : (Jvm.Cond.instanceMethod ({ cls := "OutwardDoors$Image", name := "keep", desc := "()V" } : Jvm.MethodName)) ∈ lw_all := lw_g (lw_at lw_m5 230 rfl) rfl
theorem q1340 : (Jvm.Cond.selects "OutwardDoors$Image" ({ cls := "OutwardDoors$Image", name := "keep", desc := "()V" } : Jvm.MethodName) ({ cls := "OutwardDoors$Image", name := "keep", desc := "()V" } : Jvm.MethodName)) ∈ lw_all := lw_g (lw_at lw_m5 231 rfl) rfl
theorem q1341 : (Jvm.Cond.code ({ cls := "OutwardDoors$Image", name := "keep", desc := "()V" } : Jvm.MethodName) prog_8_method_2_code (2 : Nat) (Option.none : Option Jvm.ClassFile.FieldType)) ∈ lw_all := lw_g (lw_at lw_m5 232 rfl) rfl
theorem q1342 : (Jvm.Cond.methodLink "OutwardDoors$Image" (42 : Nat) ({ cls := "OutwardDoors$State", name := "copyFrom", desc := "(LOutwardDoors$State;)V" } : Jvm.MethodName)) ∈ lw_all := lw_g (lw_at lw_m5 233 rfl) rfl
theorem q1348 : (Jvm.Cond.instanceMethod ({ cls := "OutwardDoors$Image", name := "back", desc := "()V" } : Jvm.MethodName)) ∈ lw_all := lw_g (lw_at lw_m5 239 rfl) rfl
theorem q1349 : (Jvm.Cond.selects "OutwardDoors$Image" ({ cls := "OutwardDoors$Image", name := "back", desc := "()V" } : Jvm.MethodName) ({ cls := "OutwardDoors$Image", name := "back", desc := "()V" } : Jvm.MethodName)) ∈ lw_all := lw_g (lw_at lw_m6 0 rfl) rfl
theorem q1350 : (Jvm.Cond.code ({ cls := "OutwardDoors$Image", name := "back", desc := "()V" } : Jvm.MethodName) prog_8_method_3_code (2 : Nat) (Option.none : Option Jvm.ClassFile.FieldType)) ∈ lw_all := lw_g (lw_at lw_m6 1 rfl) rfl
theorem q2004 : (Jvm.Cond.castable "OutwardDoors$Image" "java/lang/Object") ∈ lw_tbl := lw_at lw_m8 175 rfl
theorem in_X18 : ∀ w ∈ wsX180, w ∈ lw_all := lw_in wsX180 [1319, 1321, 1323, 1325, 1327, 1329, 1331, 1333, 1335] (by decide +kernel) (by decide +kernel)

/-! OutwardDoors$State -/
set_option maxRecDepth 100000
def RX2 : String := "OutwardDoors$State"
def TX2 : u_T := fun k => match k with
  | 0 => ("OutwardDoors$State", "room", "[I", true)
  | 1 => ("OutwardDoors$State", "goal", "[I", true)
  | 2 => ("OutwardDoors$State", "came", "[I", true)
  | 3 => ("OutwardDoors$State", "went", "[I", true)
  | 4 => ("OutwardDoors$State", "by", "[I", true)
  | _ => ("OutwardDoors$State", "moment", "I", false)
def tyX2 : Nat → FieldType := fun k => match k with
  | 0 => .array .int
  | 1 => .array .int
  | 2 => .array .int
  | 3 => .array .int
  | 4 => .array .int
  | _ => .int
abbrev wsX20 : List Cond := u_ws RX2 TX2 6
theorem nmX2 : ∀ a, a < 6 → ∀ b, b < 6 → a ≠ b → (TX2 a).2.1 ≠ (TX2 b).2.1 := by decide +kernel
theorem tyX2_ok : ∀ k, k < 6 → parseFieldDescriptor (TX2 k).2.2.1 = some (tyX2 k) := by decide +kernel
abbrev cX2_init : ByteArray := prog_15_method_1_code
def yX2_init : MethodName := ⟨RX2, "<init>", "()V"⟩
def dkwX2_init_1 : List UInt8 := [181, 0, 18, 42, 7, 188, 10, 181, 0, 21, 42, 7, 188, 10, 181, 0, 24, 177]
abbrev dktX2_init_1 : List UInt8 := dkwX2_init_1 ++ []
def dkwX2_init_0 : List UInt8 := [42, 183, 0, 3, 42, 7, 188, 10, 181, 0, 9, 42, 7, 188, 10, 181, 0, 15, 42, 7, 188, 10]
abbrev dktX2_init_0 : List UInt8 := dkwX2_init_0 ++ dktX2_init_1
theorem dksX2_init_0 : cX2_init.data.toList.drop 0 = dktX2_init_0 := by decide +kernel
theorem dksX2_init_1 : cX2_init.data.toList.drop 22 = dktX2_init_1 := dk_seg dksX2_init_0 22 rfl rfl
theorem dX2_init_0 : decode cX2_init 0 = .ok (.aload_n 0, 1) := dk_42 (dk_at dksX2_init_0 0 rfl rfl)
theorem dX2_init_1 : decode cX2_init 1 = .ok (.invokespecial 3, 3) := dk_183 0 3 (dk_at dksX2_init_0 1 rfl rfl)
theorem dX2_init_4 : decode cX2_init 4 = .ok (.aload_n 0, 1) := dk_42 (dk_at dksX2_init_0 4 rfl rfl)
theorem dX2_init_5 : decode cX2_init 5 = .ok (.iconst 4, 1) := dk_7 (dk_at dksX2_init_0 5 rfl rfl)
theorem dX2_init_6 : decode cX2_init 6 = .ok (.newarray .int, 2) := dk_188_10 (dk_at dksX2_init_0 6 rfl rfl)
theorem dX2_init_8 : decode cX2_init 8 = .ok (.putfield 9, 3) := dk_181 0 9 (dk_at dksX2_init_0 8 rfl rfl)
theorem dX2_init_11 : decode cX2_init 11 = .ok (.aload_n 0, 1) := dk_42 (dk_at dksX2_init_0 11 rfl rfl)
theorem dX2_init_12 : decode cX2_init 12 = .ok (.iconst 4, 1) := dk_7 (dk_at dksX2_init_0 12 rfl rfl)
theorem dX2_init_13 : decode cX2_init 13 = .ok (.newarray .int, 2) := dk_188_10 (dk_at dksX2_init_0 13 rfl rfl)
theorem dX2_init_15 : decode cX2_init 15 = .ok (.putfield 15, 3) := dk_181 0 15 (dk_at dksX2_init_0 15 rfl rfl)
theorem dX2_init_18 : decode cX2_init 18 = .ok (.aload_n 0, 1) := dk_42 (dk_at dksX2_init_0 18 rfl rfl)
theorem dX2_init_19 : decode cX2_init 19 = .ok (.iconst 4, 1) := dk_7 (dk_at dksX2_init_0 19 rfl rfl)
theorem dX2_init_20 : decode cX2_init 20 = .ok (.newarray .int, 2) := dk_188_10 (dk_at dksX2_init_0 20 rfl rfl)
theorem dX2_init_22 : decode cX2_init 22 = .ok (.putfield 18, 3) := dk_181 0 18 (dk_at dksX2_init_1 0 rfl rfl)
theorem dX2_init_25 : decode cX2_init 25 = .ok (.aload_n 0, 1) := dk_42 (dk_at dksX2_init_1 3 rfl rfl)
theorem dX2_init_26 : decode cX2_init 26 = .ok (.iconst 4, 1) := dk_7 (dk_at dksX2_init_1 4 rfl rfl)
theorem dX2_init_27 : decode cX2_init 27 = .ok (.newarray .int, 2) := dk_188_10 (dk_at dksX2_init_1 5 rfl rfl)
theorem dX2_init_29 : decode cX2_init 29 = .ok (.putfield 21, 3) := dk_181 0 21 (dk_at dksX2_init_1 7 rfl rfl)
theorem dX2_init_32 : decode cX2_init 32 = .ok (.aload_n 0, 1) := dk_42 (dk_at dksX2_init_1 10 rfl rfl)
theorem dX2_init_33 : decode cX2_init 33 = .ok (.iconst 4, 1) := dk_7 (dk_at dksX2_init_1 11 rfl rfl)
theorem dX2_init_34 : decode cX2_init 34 = .ok (.newarray .int, 2) := dk_188_10 (dk_at dksX2_init_1 12 rfl rfl)
theorem dX2_init_36 : decode cX2_init 36 = .ok (.putfield 24, 3) := dk_181 0 24 (dk_at dksX2_init_1 14 rfl rfl)
theorem dX2_init_39 : decode cX2_init 39 = .ok (.return_, 1) := dk_177 (dk_at dksX2_init_1 17 rfl rfl)
abbrev cX2_begin : ByteArray := prog_15_method_3_code
def yX2_begin : MethodName := ⟨RX2, "begin", "(LOutwardDoors$Castle;)V"⟩
def dkwX2_begin_4 : List UInt8 := [79, 42, 180, 0, 24, 28, 2, 79, 132, 2, 1, 167, 255, 157, 42, 3, 181, 0, 27, 177]
abbrev dktX2_begin_4 : List UInt8 := dkwX2_begin_4 ++ []
def dkwX2_begin_3 : List UInt8 := [192, 0, 47, 180, 0, 51, 167, 0, 4, 2, 79, 42, 180, 0, 18, 28, 3, 79, 42, 180, 0, 21, 28, 3]
abbrev dktX2_begin_3 : List UInt8 := dkwX2_begin_3 ++ dktX2_begin_4
def dkwX2_begin_2 : List UInt8 := [167, 0, 4, 2, 79, 42, 180, 0, 15, 28, 29, 153, 0, 20, 43, 180, 0, 37, 28, 182, 0, 41]
abbrev dktX2_begin_2 : List UInt8 := dkwX2_begin_2 ++ dktX2_begin_3
def dkwX2_begin_1 : List UInt8 := [180, 0, 9, 28, 29, 153, 0, 20, 43, 180, 0, 37, 28, 182, 0, 41, 192, 0, 47, 180, 0, 49]
abbrev dktX2_begin_1 : List UInt8 := dkwX2_begin_1 ++ dktX2_begin_2
def dkwX2_begin_0 : List UInt8 := [3, 61, 28, 7, 162, 0, 100, 28, 43, 182, 0, 31, 162, 0, 7, 4, 167, 0, 4, 3, 62, 42]
abbrev dktX2_begin_0 : List UInt8 := dkwX2_begin_0 ++ dktX2_begin_1
theorem dksX2_begin_0 : cX2_begin.data.toList.drop 0 = dktX2_begin_0 := by decide +kernel
theorem dksX2_begin_1 : cX2_begin.data.toList.drop 22 = dktX2_begin_1 := dk_seg dksX2_begin_0 22 rfl rfl
theorem dksX2_begin_2 : cX2_begin.data.toList.drop 44 = dktX2_begin_2 := dk_seg dksX2_begin_1 22 rfl rfl
theorem dksX2_begin_3 : cX2_begin.data.toList.drop 66 = dktX2_begin_3 := dk_seg dksX2_begin_2 22 rfl rfl
theorem dksX2_begin_4 : cX2_begin.data.toList.drop 90 = dktX2_begin_4 := dk_seg dksX2_begin_3 24 rfl rfl
theorem dX2_begin_0 : decode cX2_begin 0 = .ok (.iconst 0, 1) := dk_3 (dk_at dksX2_begin_0 0 rfl rfl)
theorem dX2_begin_1 : decode cX2_begin 1 = .ok (.istore_n 2, 1) := dk_61 (dk_at dksX2_begin_0 1 rfl rfl)
theorem dX2_begin_2 : decode cX2_begin 2 = .ok (.iload_n 2, 1) := dk_28 (dk_at dksX2_begin_0 2 rfl rfl)
theorem dX2_begin_3 : decode cX2_begin 3 = .ok (.iconst 4, 1) := dk_7 (dk_at dksX2_begin_0 3 rfl rfl)
theorem dX2_begin_4 : decode cX2_begin 4 = .ok (.if_icmp .ge 100, 3) := dk_162 0 100 (dk_at dksX2_begin_0 4 rfl rfl)
theorem dX2_begin_7 : decode cX2_begin 7 = .ok (.iload_n 2, 1) := dk_28 (dk_at dksX2_begin_0 7 rfl rfl)
theorem dX2_begin_8 : decode cX2_begin 8 = .ok (.aload_n 1, 1) := dk_43 (dk_at dksX2_begin_0 8 rfl rfl)
theorem dX2_begin_9 : decode cX2_begin 9 = .ok (.invokevirtual 31, 3) := dk_182 0 31 (dk_at dksX2_begin_0 9 rfl rfl)
theorem dX2_begin_12 : decode cX2_begin 12 = .ok (.if_icmp .ge 7, 3) := dk_162 0 7 (dk_at dksX2_begin_0 12 rfl rfl)
theorem dX2_begin_15 : decode cX2_begin 15 = .ok (.iconst 1, 1) := dk_4 (dk_at dksX2_begin_0 15 rfl rfl)
theorem dX2_begin_16 : decode cX2_begin 16 = .ok (.goto 4, 3) := dk_167 0 4 (dk_at dksX2_begin_0 16 rfl rfl)
theorem dX2_begin_19 : decode cX2_begin 19 = .ok (.iconst 0, 1) := dk_3 (dk_at dksX2_begin_0 19 rfl rfl)
theorem dX2_begin_20 : decode cX2_begin 20 = .ok (.istore_n 3, 1) := dk_62 (dk_at dksX2_begin_0 20 rfl rfl)
theorem dX2_begin_21 : decode cX2_begin 21 = .ok (.aload_n 0, 1) := dk_42 (dk_at dksX2_begin_0 21 rfl rfl)
theorem dX2_begin_22 : decode cX2_begin 22 = .ok (.getfield 9, 3) := dk_180 0 9 (dk_at dksX2_begin_1 0 rfl rfl)
theorem dX2_begin_25 : decode cX2_begin 25 = .ok (.iload_n 2, 1) := dk_28 (dk_at dksX2_begin_1 3 rfl rfl)
theorem dX2_begin_26 : decode cX2_begin 26 = .ok (.iload_n 3, 1) := dk_29 (dk_at dksX2_begin_1 4 rfl rfl)
theorem dX2_begin_27 : decode cX2_begin 27 = .ok (.ifCond .eq 20, 3) := dk_153 0 20 (dk_at dksX2_begin_1 5 rfl rfl)
theorem dX2_begin_30 : decode cX2_begin 30 = .ok (.aload_n 1, 1) := dk_43 (dk_at dksX2_begin_1 8 rfl rfl)
theorem dX2_begin_31 : decode cX2_begin 31 = .ok (.getfield 37, 3) := dk_180 0 37 (dk_at dksX2_begin_1 9 rfl rfl)
theorem dX2_begin_34 : decode cX2_begin 34 = .ok (.iload_n 2, 1) := dk_28 (dk_at dksX2_begin_1 12 rfl rfl)
theorem dX2_begin_35 : decode cX2_begin 35 = .ok (.invokevirtual 41, 3) := dk_182 0 41 (dk_at dksX2_begin_1 13 rfl rfl)
theorem dX2_begin_38 : decode cX2_begin 38 = .ok (.checkcast 47, 3) := dk_192 0 47 (dk_at dksX2_begin_1 16 rfl rfl)
theorem dX2_begin_41 : decode cX2_begin 41 = .ok (.getfield 49, 3) := dk_180 0 49 (dk_at dksX2_begin_1 19 rfl rfl)
theorem dX2_begin_44 : decode cX2_begin 44 = .ok (.goto 4, 3) := dk_167 0 4 (dk_at dksX2_begin_2 0 rfl rfl)
theorem dX2_begin_47 : decode cX2_begin 47 = .ok (.iconst (-1), 1) := dk_2 (dk_at dksX2_begin_2 3 rfl rfl)
theorem dX2_begin_48 : decode cX2_begin 48 = .ok (.iastore, 1) := dk_79 (dk_at dksX2_begin_2 4 rfl rfl)
theorem dX2_begin_49 : decode cX2_begin 49 = .ok (.aload_n 0, 1) := dk_42 (dk_at dksX2_begin_2 5 rfl rfl)
theorem dX2_begin_50 : decode cX2_begin 50 = .ok (.getfield 15, 3) := dk_180 0 15 (dk_at dksX2_begin_2 6 rfl rfl)
theorem dX2_begin_53 : decode cX2_begin 53 = .ok (.iload_n 2, 1) := dk_28 (dk_at dksX2_begin_2 9 rfl rfl)
theorem dX2_begin_54 : decode cX2_begin 54 = .ok (.iload_n 3, 1) := dk_29 (dk_at dksX2_begin_2 10 rfl rfl)
theorem dX2_begin_55 : decode cX2_begin 55 = .ok (.ifCond .eq 20, 3) := dk_153 0 20 (dk_at dksX2_begin_2 11 rfl rfl)
theorem dX2_begin_58 : decode cX2_begin 58 = .ok (.aload_n 1, 1) := dk_43 (dk_at dksX2_begin_2 14 rfl rfl)
theorem dX2_begin_59 : decode cX2_begin 59 = .ok (.getfield 37, 3) := dk_180 0 37 (dk_at dksX2_begin_2 15 rfl rfl)
theorem dX2_begin_62 : decode cX2_begin 62 = .ok (.iload_n 2, 1) := dk_28 (dk_at dksX2_begin_2 18 rfl rfl)
theorem dX2_begin_63 : decode cX2_begin 63 = .ok (.invokevirtual 41, 3) := dk_182 0 41 (dk_at dksX2_begin_2 19 rfl rfl)
theorem dX2_begin_66 : decode cX2_begin 66 = .ok (.checkcast 47, 3) := dk_192 0 47 (dk_at dksX2_begin_3 0 rfl rfl)
theorem dX2_begin_69 : decode cX2_begin 69 = .ok (.getfield 51, 3) := dk_180 0 51 (dk_at dksX2_begin_3 3 rfl rfl)
theorem dX2_begin_72 : decode cX2_begin 72 = .ok (.goto 4, 3) := dk_167 0 4 (dk_at dksX2_begin_3 6 rfl rfl)
theorem dX2_begin_75 : decode cX2_begin 75 = .ok (.iconst (-1), 1) := dk_2 (dk_at dksX2_begin_3 9 rfl rfl)
theorem dX2_begin_76 : decode cX2_begin 76 = .ok (.iastore, 1) := dk_79 (dk_at dksX2_begin_3 10 rfl rfl)
theorem dX2_begin_77 : decode cX2_begin 77 = .ok (.aload_n 0, 1) := dk_42 (dk_at dksX2_begin_3 11 rfl rfl)
theorem dX2_begin_78 : decode cX2_begin 78 = .ok (.getfield 18, 3) := dk_180 0 18 (dk_at dksX2_begin_3 12 rfl rfl)
theorem dX2_begin_81 : decode cX2_begin 81 = .ok (.iload_n 2, 1) := dk_28 (dk_at dksX2_begin_3 15 rfl rfl)
theorem dX2_begin_82 : decode cX2_begin 82 = .ok (.iconst 0, 1) := dk_3 (dk_at dksX2_begin_3 16 rfl rfl)
theorem dX2_begin_83 : decode cX2_begin 83 = .ok (.iastore, 1) := dk_79 (dk_at dksX2_begin_3 17 rfl rfl)
theorem dX2_begin_84 : decode cX2_begin 84 = .ok (.aload_n 0, 1) := dk_42 (dk_at dksX2_begin_3 18 rfl rfl)
theorem dX2_begin_85 : decode cX2_begin 85 = .ok (.getfield 21, 3) := dk_180 0 21 (dk_at dksX2_begin_3 19 rfl rfl)
theorem dX2_begin_88 : decode cX2_begin 88 = .ok (.iload_n 2, 1) := dk_28 (dk_at dksX2_begin_3 22 rfl rfl)
theorem dX2_begin_89 : decode cX2_begin 89 = .ok (.iconst 0, 1) := dk_3 (dk_at dksX2_begin_3 23 rfl rfl)
theorem dX2_begin_90 : decode cX2_begin 90 = .ok (.iastore, 1) := dk_79 (dk_at dksX2_begin_4 0 rfl rfl)
theorem dX2_begin_91 : decode cX2_begin 91 = .ok (.aload_n 0, 1) := dk_42 (dk_at dksX2_begin_4 1 rfl rfl)
theorem dX2_begin_92 : decode cX2_begin 92 = .ok (.getfield 24, 3) := dk_180 0 24 (dk_at dksX2_begin_4 2 rfl rfl)
theorem dX2_begin_95 : decode cX2_begin 95 = .ok (.iload_n 2, 1) := dk_28 (dk_at dksX2_begin_4 5 rfl rfl)
theorem dX2_begin_96 : decode cX2_begin 96 = .ok (.iconst (-1), 1) := dk_2 (dk_at dksX2_begin_4 6 rfl rfl)
theorem dX2_begin_97 : decode cX2_begin 97 = .ok (.iastore, 1) := dk_79 (dk_at dksX2_begin_4 7 rfl rfl)
theorem dX2_begin_98 : decode cX2_begin 98 = .ok (.iinc 2 1, 3) := dk_132 2 1 (dk_at dksX2_begin_4 8 rfl rfl)
theorem dX2_begin_101 : decode cX2_begin 101 = .ok (.goto (-99), 3) := dk_167 255 157 (dk_at dksX2_begin_4 11 rfl rfl)
theorem dX2_begin_104 : decode cX2_begin 104 = .ok (.aload_n 0, 1) := dk_42 (dk_at dksX2_begin_4 14 rfl rfl)
theorem dX2_begin_105 : decode cX2_begin 105 = .ok (.iconst 0, 1) := dk_3 (dk_at dksX2_begin_4 15 rfl rfl)
theorem dX2_begin_106 : decode cX2_begin 106 = .ok (.putfield 27, 3) := dk_181 0 27 (dk_at dksX2_begin_4 16 rfl rfl)
theorem dX2_begin_109 : decode cX2_begin 109 = .ok (.return_, 1) := dk_177 (dk_at dksX2_begin_4 19 rfl rfl)
abbrev cX2_copyFrom : ByteArray := prog_15_method_2_code
def yX2_copyFrom : MethodName := ⟨RX2, "copyFrom", "(LOutwardDoors$State;)V"⟩
def dkwX2_copyFrom_3 : List UInt8 := [167, 255, 188, 42, 43, 180, 0, 27, 181, 0, 27, 177]
abbrev dktX2_copyFrom_3 : List UInt8 := dkwX2_copyFrom_3 ++ []
def dkwX2_copyFrom_2 : List UInt8 := [43, 180, 0, 21, 28, 46, 79, 42, 180, 0, 24, 28, 43, 180, 0, 24, 28, 46, 79, 132, 2, 1]
abbrev dktX2_copyFrom_2 : List UInt8 := dkwX2_copyFrom_2 ++ dktX2_copyFrom_3
def dkwX2_copyFrom_1 : List UInt8 := [43, 180, 0, 15, 28, 46, 79, 42, 180, 0, 18, 28, 43, 180, 0, 18, 28, 46, 79, 42, 180, 0, 21, 28]
abbrev dktX2_copyFrom_1 : List UInt8 := dkwX2_copyFrom_1 ++ dktX2_copyFrom_2
def dkwX2_copyFrom_0 : List UInt8 := [3, 61, 28, 7, 162, 0, 69, 42, 180, 0, 9, 28, 43, 180, 0, 9, 28, 46, 79, 42, 180, 0, 15, 28]
abbrev dktX2_copyFrom_0 : List UInt8 := dkwX2_copyFrom_0 ++ dktX2_copyFrom_1
theorem dksX2_copyFrom_0 : cX2_copyFrom.data.toList.drop 0 = dktX2_copyFrom_0 := by decide +kernel
theorem dksX2_copyFrom_1 : cX2_copyFrom.data.toList.drop 24 = dktX2_copyFrom_1 := dk_seg dksX2_copyFrom_0 24 rfl rfl
theorem dksX2_copyFrom_2 : cX2_copyFrom.data.toList.drop 48 = dktX2_copyFrom_2 := dk_seg dksX2_copyFrom_1 24 rfl rfl
theorem dksX2_copyFrom_3 : cX2_copyFrom.data.toList.drop 70 = dktX2_copyFrom_3 := dk_seg dksX2_copyFrom_2 22 rfl rfl
theorem dX2_copyFrom_0 : decode cX2_copyFrom 0 = .ok (.iconst 0, 1) := dk_3 (dk_at dksX2_copyFrom_0 0 rfl rfl)
theorem dX2_copyFrom_1 : decode cX2_copyFrom 1 = .ok (.istore_n 2, 1) := dk_61 (dk_at dksX2_copyFrom_0 1 rfl rfl)
theorem dX2_copyFrom_2 : decode cX2_copyFrom 2 = .ok (.iload_n 2, 1) := dk_28 (dk_at dksX2_copyFrom_0 2 rfl rfl)
theorem dX2_copyFrom_3 : decode cX2_copyFrom 3 = .ok (.iconst 4, 1) := dk_7 (dk_at dksX2_copyFrom_0 3 rfl rfl)
theorem dX2_copyFrom_4 : decode cX2_copyFrom 4 = .ok (.if_icmp .ge 69, 3) := dk_162 0 69 (dk_at dksX2_copyFrom_0 4 rfl rfl)
theorem dX2_copyFrom_7 : decode cX2_copyFrom 7 = .ok (.aload_n 0, 1) := dk_42 (dk_at dksX2_copyFrom_0 7 rfl rfl)
theorem dX2_copyFrom_8 : decode cX2_copyFrom 8 = .ok (.getfield 9, 3) := dk_180 0 9 (dk_at dksX2_copyFrom_0 8 rfl rfl)
theorem dX2_copyFrom_11 : decode cX2_copyFrom 11 = .ok (.iload_n 2, 1) := dk_28 (dk_at dksX2_copyFrom_0 11 rfl rfl)
theorem dX2_copyFrom_12 : decode cX2_copyFrom 12 = .ok (.aload_n 1, 1) := dk_43 (dk_at dksX2_copyFrom_0 12 rfl rfl)
theorem dX2_copyFrom_13 : decode cX2_copyFrom 13 = .ok (.getfield 9, 3) := dk_180 0 9 (dk_at dksX2_copyFrom_0 13 rfl rfl)
theorem dX2_copyFrom_16 : decode cX2_copyFrom 16 = .ok (.iload_n 2, 1) := dk_28 (dk_at dksX2_copyFrom_0 16 rfl rfl)
theorem dX2_copyFrom_17 : decode cX2_copyFrom 17 = .ok (.iaload, 1) := dk_46 (dk_at dksX2_copyFrom_0 17 rfl rfl)
theorem dX2_copyFrom_18 : decode cX2_copyFrom 18 = .ok (.iastore, 1) := dk_79 (dk_at dksX2_copyFrom_0 18 rfl rfl)
theorem dX2_copyFrom_19 : decode cX2_copyFrom 19 = .ok (.aload_n 0, 1) := dk_42 (dk_at dksX2_copyFrom_0 19 rfl rfl)
theorem dX2_copyFrom_20 : decode cX2_copyFrom 20 = .ok (.getfield 15, 3) := dk_180 0 15 (dk_at dksX2_copyFrom_0 20 rfl rfl)
theorem dX2_copyFrom_23 : decode cX2_copyFrom 23 = .ok (.iload_n 2, 1) := dk_28 (dk_at dksX2_copyFrom_0 23 rfl rfl)
theorem dX2_copyFrom_24 : decode cX2_copyFrom 24 = .ok (.aload_n 1, 1) := dk_43 (dk_at dksX2_copyFrom_1 0 rfl rfl)
theorem dX2_copyFrom_25 : decode cX2_copyFrom 25 = .ok (.getfield 15, 3) := dk_180 0 15 (dk_at dksX2_copyFrom_1 1 rfl rfl)
theorem dX2_copyFrom_28 : decode cX2_copyFrom 28 = .ok (.iload_n 2, 1) := dk_28 (dk_at dksX2_copyFrom_1 4 rfl rfl)
theorem dX2_copyFrom_29 : decode cX2_copyFrom 29 = .ok (.iaload, 1) := dk_46 (dk_at dksX2_copyFrom_1 5 rfl rfl)
theorem dX2_copyFrom_30 : decode cX2_copyFrom 30 = .ok (.iastore, 1) := dk_79 (dk_at dksX2_copyFrom_1 6 rfl rfl)
theorem dX2_copyFrom_31 : decode cX2_copyFrom 31 = .ok (.aload_n 0, 1) := dk_42 (dk_at dksX2_copyFrom_1 7 rfl rfl)
theorem dX2_copyFrom_32 : decode cX2_copyFrom 32 = .ok (.getfield 18, 3) := dk_180 0 18 (dk_at dksX2_copyFrom_1 8 rfl rfl)
theorem dX2_copyFrom_35 : decode cX2_copyFrom 35 = .ok (.iload_n 2, 1) := dk_28 (dk_at dksX2_copyFrom_1 11 rfl rfl)
theorem dX2_copyFrom_36 : decode cX2_copyFrom 36 = .ok (.aload_n 1, 1) := dk_43 (dk_at dksX2_copyFrom_1 12 rfl rfl)
theorem dX2_copyFrom_37 : decode cX2_copyFrom 37 = .ok (.getfield 18, 3) := dk_180 0 18 (dk_at dksX2_copyFrom_1 13 rfl rfl)
theorem dX2_copyFrom_40 : decode cX2_copyFrom 40 = .ok (.iload_n 2, 1) := dk_28 (dk_at dksX2_copyFrom_1 16 rfl rfl)
theorem dX2_copyFrom_41 : decode cX2_copyFrom 41 = .ok (.iaload, 1) := dk_46 (dk_at dksX2_copyFrom_1 17 rfl rfl)
theorem dX2_copyFrom_42 : decode cX2_copyFrom 42 = .ok (.iastore, 1) := dk_79 (dk_at dksX2_copyFrom_1 18 rfl rfl)
theorem dX2_copyFrom_43 : decode cX2_copyFrom 43 = .ok (.aload_n 0, 1) := dk_42 (dk_at dksX2_copyFrom_1 19 rfl rfl)
theorem dX2_copyFrom_44 : decode cX2_copyFrom 44 = .ok (.getfield 21, 3) := dk_180 0 21 (dk_at dksX2_copyFrom_1 20 rfl rfl)
theorem dX2_copyFrom_47 : decode cX2_copyFrom 47 = .ok (.iload_n 2, 1) := dk_28 (dk_at dksX2_copyFrom_1 23 rfl rfl)
theorem dX2_copyFrom_48 : decode cX2_copyFrom 48 = .ok (.aload_n 1, 1) := dk_43 (dk_at dksX2_copyFrom_2 0 rfl rfl)
theorem dX2_copyFrom_49 : decode cX2_copyFrom 49 = .ok (.getfield 21, 3) := dk_180 0 21 (dk_at dksX2_copyFrom_2 1 rfl rfl)
theorem dX2_copyFrom_52 : decode cX2_copyFrom 52 = .ok (.iload_n 2, 1) := dk_28 (dk_at dksX2_copyFrom_2 4 rfl rfl)
theorem dX2_copyFrom_53 : decode cX2_copyFrom 53 = .ok (.iaload, 1) := dk_46 (dk_at dksX2_copyFrom_2 5 rfl rfl)
theorem dX2_copyFrom_54 : decode cX2_copyFrom 54 = .ok (.iastore, 1) := dk_79 (dk_at dksX2_copyFrom_2 6 rfl rfl)
theorem dX2_copyFrom_55 : decode cX2_copyFrom 55 = .ok (.aload_n 0, 1) := dk_42 (dk_at dksX2_copyFrom_2 7 rfl rfl)
theorem dX2_copyFrom_56 : decode cX2_copyFrom 56 = .ok (.getfield 24, 3) := dk_180 0 24 (dk_at dksX2_copyFrom_2 8 rfl rfl)
theorem dX2_copyFrom_59 : decode cX2_copyFrom 59 = .ok (.iload_n 2, 1) := dk_28 (dk_at dksX2_copyFrom_2 11 rfl rfl)
theorem dX2_copyFrom_60 : decode cX2_copyFrom 60 = .ok (.aload_n 1, 1) := dk_43 (dk_at dksX2_copyFrom_2 12 rfl rfl)
theorem dX2_copyFrom_61 : decode cX2_copyFrom 61 = .ok (.getfield 24, 3) := dk_180 0 24 (dk_at dksX2_copyFrom_2 13 rfl rfl)
theorem dX2_copyFrom_64 : decode cX2_copyFrom 64 = .ok (.iload_n 2, 1) := dk_28 (dk_at dksX2_copyFrom_2 16 rfl rfl)
theorem dX2_copyFrom_65 : decode cX2_copyFrom 65 = .ok (.iaload, 1) := dk_46 (dk_at dksX2_copyFrom_2 17 rfl rfl)
theorem dX2_copyFrom_66 : decode cX2_copyFrom 66 = .ok (.iastore, 1) := dk_79 (dk_at dksX2_copyFrom_2 18 rfl rfl)
theorem dX2_copyFrom_67 : decode cX2_copyFrom 67 = .ok (.iinc 2 1, 3) := dk_132 2 1 (dk_at dksX2_copyFrom_2 19 rfl rfl)
theorem dX2_copyFrom_70 : decode cX2_copyFrom 70 = .ok (.goto (-68), 3) := dk_167 255 188 (dk_at dksX2_copyFrom_3 0 rfl rfl)
theorem dX2_copyFrom_73 : decode cX2_copyFrom 73 = .ok (.aload_n 0, 1) := dk_42 (dk_at dksX2_copyFrom_3 3 rfl rfl)
theorem dX2_copyFrom_74 : decode cX2_copyFrom 74 = .ok (.aload_n 1, 1) := dk_43 (dk_at dksX2_copyFrom_3 4 rfl rfl)
theorem dX2_copyFrom_75 : decode cX2_copyFrom 75 = .ok (.getfield 27, 3) := dk_180 0 27 (dk_at dksX2_copyFrom_3 5 rfl rfl)
theorem dX2_copyFrom_78 : decode cX2_copyFrom 78 = .ok (.putfield 27, 3) := dk_181 0 27 (dk_at dksX2_copyFrom_3 8 rfl rfl)
theorem dX2_copyFrom_81 : decode cX2_copyFrom 81 = .ok (.return_, 1) := dk_177 (dk_at dksX2_copyFrom_3 11 rfl rfl)
abbrev cX2_goesOut : ByteArray := prog_15_method_4_code
def yX2_goesOut : MethodName := ⟨RX2, "goesOut", "(II)V"⟩
def dkwX2_goesOut_0 : List UInt8 := [42, 180, 0, 9, 27, 28, 79, 42, 180, 0, 21, 27, 92, 46, 4, 96, 79, 177]
abbrev dktX2_goesOut_0 : List UInt8 := dkwX2_goesOut_0 ++ []
theorem dksX2_goesOut_0 : cX2_goesOut.data.toList.drop 0 = dktX2_goesOut_0 := by decide +kernel
theorem dX2_goesOut_0 : decode cX2_goesOut 0 = .ok (.aload_n 0, 1) := dk_42 (dk_at dksX2_goesOut_0 0 rfl rfl)
theorem dX2_goesOut_1 : decode cX2_goesOut 1 = .ok (.getfield 9, 3) := dk_180 0 9 (dk_at dksX2_goesOut_0 1 rfl rfl)
theorem dX2_goesOut_4 : decode cX2_goesOut 4 = .ok (.iload_n 1, 1) := dk_27 (dk_at dksX2_goesOut_0 4 rfl rfl)
theorem dX2_goesOut_5 : decode cX2_goesOut 5 = .ok (.iload_n 2, 1) := dk_28 (dk_at dksX2_goesOut_0 5 rfl rfl)
theorem dX2_goesOut_6 : decode cX2_goesOut 6 = .ok (.iastore, 1) := dk_79 (dk_at dksX2_goesOut_0 6 rfl rfl)
theorem dX2_goesOut_7 : decode cX2_goesOut 7 = .ok (.aload_n 0, 1) := dk_42 (dk_at dksX2_goesOut_0 7 rfl rfl)
theorem dX2_goesOut_8 : decode cX2_goesOut 8 = .ok (.getfield 21, 3) := dk_180 0 21 (dk_at dksX2_goesOut_0 8 rfl rfl)
theorem dX2_goesOut_11 : decode cX2_goesOut 11 = .ok (.iload_n 1, 1) := dk_27 (dk_at dksX2_goesOut_0 11 rfl rfl)
theorem dX2_goesOut_12 : decode cX2_goesOut 12 = .ok (.dup2, 1) := dk_92 (dk_at dksX2_goesOut_0 12 rfl rfl)
theorem dX2_goesOut_13 : decode cX2_goesOut 13 = .ok (.iaload, 1) := dk_46 (dk_at dksX2_goesOut_0 13 rfl rfl)
theorem dX2_goesOut_14 : decode cX2_goesOut 14 = .ok (.iconst 1, 1) := dk_4 (dk_at dksX2_goesOut_0 14 rfl rfl)
theorem dX2_goesOut_15 : decode cX2_goesOut 15 = .ok (.iadd, 1) := dk_96 (dk_at dksX2_goesOut_0 15 rfl rfl)
theorem dX2_goesOut_16 : decode cX2_goesOut 16 = .ok (.iastore, 1) := dk_79 (dk_at dksX2_goesOut_0 16 rfl rfl)
theorem dX2_goesOut_17 : decode cX2_goesOut 17 = .ok (.return_, 1) := dk_177 (dk_at dksX2_goesOut_0 17 rfl rfl)
abbrev cX2_comesIn : ByteArray := prog_15_method_5_code
def yX2_comesIn : MethodName := ⟨RX2, "comesIn", "(III)V"⟩
def dkwX2_comesIn_1 : List UInt8 := [177]
abbrev dktX2_comesIn_1 : List UInt8 := dkwX2_comesIn_1 ++ []
def dkwX2_comesIn_0 : List UInt8 := [42, 180, 0, 9, 27, 28, 79, 42, 180, 0, 18, 27, 92, 46, 4, 96, 79, 42, 180, 0, 24, 27, 29, 79]
abbrev dktX2_comesIn_0 : List UInt8 := dkwX2_comesIn_0 ++ dktX2_comesIn_1
theorem dksX2_comesIn_0 : cX2_comesIn.data.toList.drop 0 = dktX2_comesIn_0 := by decide +kernel
theorem dksX2_comesIn_1 : cX2_comesIn.data.toList.drop 24 = dktX2_comesIn_1 := dk_seg dksX2_comesIn_0 24 rfl rfl
theorem dX2_comesIn_0 : decode cX2_comesIn 0 = .ok (.aload_n 0, 1) := dk_42 (dk_at dksX2_comesIn_0 0 rfl rfl)
theorem dX2_comesIn_1 : decode cX2_comesIn 1 = .ok (.getfield 9, 3) := dk_180 0 9 (dk_at dksX2_comesIn_0 1 rfl rfl)
theorem dX2_comesIn_4 : decode cX2_comesIn 4 = .ok (.iload_n 1, 1) := dk_27 (dk_at dksX2_comesIn_0 4 rfl rfl)
theorem dX2_comesIn_5 : decode cX2_comesIn 5 = .ok (.iload_n 2, 1) := dk_28 (dk_at dksX2_comesIn_0 5 rfl rfl)
theorem dX2_comesIn_6 : decode cX2_comesIn 6 = .ok (.iastore, 1) := dk_79 (dk_at dksX2_comesIn_0 6 rfl rfl)
theorem dX2_comesIn_7 : decode cX2_comesIn 7 = .ok (.aload_n 0, 1) := dk_42 (dk_at dksX2_comesIn_0 7 rfl rfl)
theorem dX2_comesIn_8 : decode cX2_comesIn 8 = .ok (.getfield 18, 3) := dk_180 0 18 (dk_at dksX2_comesIn_0 8 rfl rfl)
theorem dX2_comesIn_11 : decode cX2_comesIn 11 = .ok (.iload_n 1, 1) := dk_27 (dk_at dksX2_comesIn_0 11 rfl rfl)
theorem dX2_comesIn_12 : decode cX2_comesIn 12 = .ok (.dup2, 1) := dk_92 (dk_at dksX2_comesIn_0 12 rfl rfl)
theorem dX2_comesIn_13 : decode cX2_comesIn 13 = .ok (.iaload, 1) := dk_46 (dk_at dksX2_comesIn_0 13 rfl rfl)
theorem dX2_comesIn_14 : decode cX2_comesIn 14 = .ok (.iconst 1, 1) := dk_4 (dk_at dksX2_comesIn_0 14 rfl rfl)
theorem dX2_comesIn_15 : decode cX2_comesIn 15 = .ok (.iadd, 1) := dk_96 (dk_at dksX2_comesIn_0 15 rfl rfl)
theorem dX2_comesIn_16 : decode cX2_comesIn 16 = .ok (.iastore, 1) := dk_79 (dk_at dksX2_comesIn_0 16 rfl rfl)
theorem dX2_comesIn_17 : decode cX2_comesIn 17 = .ok (.aload_n 0, 1) := dk_42 (dk_at dksX2_comesIn_0 17 rfl rfl)
theorem dX2_comesIn_18 : decode cX2_comesIn 18 = .ok (.getfield 24, 3) := dk_180 0 24 (dk_at dksX2_comesIn_0 18 rfl rfl)
theorem dX2_comesIn_21 : decode cX2_comesIn 21 = .ok (.iload_n 1, 1) := dk_27 (dk_at dksX2_comesIn_0 21 rfl rfl)
theorem dX2_comesIn_22 : decode cX2_comesIn 22 = .ok (.iload_n 3, 1) := dk_29 (dk_at dksX2_comesIn_0 22 rfl rfl)
theorem dX2_comesIn_23 : decode cX2_comesIn 23 = .ok (.iastore, 1) := dk_79 (dk_at dksX2_comesIn_0 23 rfl rfl)
theorem dX2_comesIn_24 : decode cX2_comesIn 24 = .ok (.return_, 1) := dk_177 (dk_at dksX2_comesIn_1 0 rfl rfl)
abbrev cX2_cameAll : ByteArray := prog_15_method_6_code
def yX2_cameAll : MethodName := ⟨RX2, "cameAll", "()I"⟩
def dkwX2_cameAll_1 : List UInt8 := [27, 172]
abbrev dktX2_cameAll_1 : List UInt8 := dkwX2_cameAll_1 ++ []
def dkwX2_cameAll_0 : List UInt8 := [3, 60, 3, 61, 28, 7, 162, 0, 18, 27, 42, 180, 0, 18, 28, 46, 96, 60, 132, 2, 1, 167, 255, 239]
abbrev dktX2_cameAll_0 : List UInt8 := dkwX2_cameAll_0 ++ dktX2_cameAll_1
theorem dksX2_cameAll_0 : cX2_cameAll.data.toList.drop 0 = dktX2_cameAll_0 := by decide +kernel
theorem dksX2_cameAll_1 : cX2_cameAll.data.toList.drop 24 = dktX2_cameAll_1 := dk_seg dksX2_cameAll_0 24 rfl rfl
theorem dX2_cameAll_0 : decode cX2_cameAll 0 = .ok (.iconst 0, 1) := dk_3 (dk_at dksX2_cameAll_0 0 rfl rfl)
theorem dX2_cameAll_1 : decode cX2_cameAll 1 = .ok (.istore_n 1, 1) := dk_60 (dk_at dksX2_cameAll_0 1 rfl rfl)
theorem dX2_cameAll_2 : decode cX2_cameAll 2 = .ok (.iconst 0, 1) := dk_3 (dk_at dksX2_cameAll_0 2 rfl rfl)
theorem dX2_cameAll_3 : decode cX2_cameAll 3 = .ok (.istore_n 2, 1) := dk_61 (dk_at dksX2_cameAll_0 3 rfl rfl)
theorem dX2_cameAll_4 : decode cX2_cameAll 4 = .ok (.iload_n 2, 1) := dk_28 (dk_at dksX2_cameAll_0 4 rfl rfl)
theorem dX2_cameAll_5 : decode cX2_cameAll 5 = .ok (.iconst 4, 1) := dk_7 (dk_at dksX2_cameAll_0 5 rfl rfl)
theorem dX2_cameAll_6 : decode cX2_cameAll 6 = .ok (.if_icmp .ge 18, 3) := dk_162 0 18 (dk_at dksX2_cameAll_0 6 rfl rfl)
theorem dX2_cameAll_9 : decode cX2_cameAll 9 = .ok (.iload_n 1, 1) := dk_27 (dk_at dksX2_cameAll_0 9 rfl rfl)
theorem dX2_cameAll_10 : decode cX2_cameAll 10 = .ok (.aload_n 0, 1) := dk_42 (dk_at dksX2_cameAll_0 10 rfl rfl)
theorem dX2_cameAll_11 : decode cX2_cameAll 11 = .ok (.getfield 18, 3) := dk_180 0 18 (dk_at dksX2_cameAll_0 11 rfl rfl)
theorem dX2_cameAll_14 : decode cX2_cameAll 14 = .ok (.iload_n 2, 1) := dk_28 (dk_at dksX2_cameAll_0 14 rfl rfl)
theorem dX2_cameAll_15 : decode cX2_cameAll 15 = .ok (.iaload, 1) := dk_46 (dk_at dksX2_cameAll_0 15 rfl rfl)
theorem dX2_cameAll_16 : decode cX2_cameAll 16 = .ok (.iadd, 1) := dk_96 (dk_at dksX2_cameAll_0 16 rfl rfl)
theorem dX2_cameAll_17 : decode cX2_cameAll 17 = .ok (.istore_n 1, 1) := dk_60 (dk_at dksX2_cameAll_0 17 rfl rfl)
theorem dX2_cameAll_18 : decode cX2_cameAll 18 = .ok (.iinc 2 1, 3) := dk_132 2 1 (dk_at dksX2_cameAll_0 18 rfl rfl)
theorem dX2_cameAll_21 : decode cX2_cameAll 21 = .ok (.goto (-17), 3) := dk_167 255 239 (dk_at dksX2_cameAll_0 21 rfl rfl)
theorem dX2_cameAll_24 : decode cX2_cameAll 24 = .ok (.iload_n 1, 1) := dk_27 (dk_at dksX2_cameAll_1 0 rfl rfl)
theorem dX2_cameAll_25 : decode cX2_cameAll 25 = .ok (.ireturn, 1) := dk_172 (dk_at dksX2_cameAll_1 1 rfl rfl)
abbrev cX2_wentAll : ByteArray := prog_15_method_7_code
def yX2_wentAll : MethodName := ⟨RX2, "wentAll", "()I"⟩
def dkwX2_wentAll_1 : List UInt8 := [27, 172]
abbrev dktX2_wentAll_1 : List UInt8 := dkwX2_wentAll_1 ++ []
def dkwX2_wentAll_0 : List UInt8 := [3, 60, 3, 61, 28, 7, 162, 0, 18, 27, 42, 180, 0, 21, 28, 46, 96, 60, 132, 2, 1, 167, 255, 239]
abbrev dktX2_wentAll_0 : List UInt8 := dkwX2_wentAll_0 ++ dktX2_wentAll_1
theorem dksX2_wentAll_0 : cX2_wentAll.data.toList.drop 0 = dktX2_wentAll_0 := by decide +kernel
theorem dksX2_wentAll_1 : cX2_wentAll.data.toList.drop 24 = dktX2_wentAll_1 := dk_seg dksX2_wentAll_0 24 rfl rfl
theorem dX2_wentAll_0 : decode cX2_wentAll 0 = .ok (.iconst 0, 1) := dk_3 (dk_at dksX2_wentAll_0 0 rfl rfl)
theorem dX2_wentAll_1 : decode cX2_wentAll 1 = .ok (.istore_n 1, 1) := dk_60 (dk_at dksX2_wentAll_0 1 rfl rfl)
theorem dX2_wentAll_2 : decode cX2_wentAll 2 = .ok (.iconst 0, 1) := dk_3 (dk_at dksX2_wentAll_0 2 rfl rfl)
theorem dX2_wentAll_3 : decode cX2_wentAll 3 = .ok (.istore_n 2, 1) := dk_61 (dk_at dksX2_wentAll_0 3 rfl rfl)
theorem dX2_wentAll_4 : decode cX2_wentAll 4 = .ok (.iload_n 2, 1) := dk_28 (dk_at dksX2_wentAll_0 4 rfl rfl)
theorem dX2_wentAll_5 : decode cX2_wentAll 5 = .ok (.iconst 4, 1) := dk_7 (dk_at dksX2_wentAll_0 5 rfl rfl)
theorem dX2_wentAll_6 : decode cX2_wentAll 6 = .ok (.if_icmp .ge 18, 3) := dk_162 0 18 (dk_at dksX2_wentAll_0 6 rfl rfl)
theorem dX2_wentAll_9 : decode cX2_wentAll 9 = .ok (.iload_n 1, 1) := dk_27 (dk_at dksX2_wentAll_0 9 rfl rfl)
theorem dX2_wentAll_10 : decode cX2_wentAll 10 = .ok (.aload_n 0, 1) := dk_42 (dk_at dksX2_wentAll_0 10 rfl rfl)
theorem dX2_wentAll_11 : decode cX2_wentAll 11 = .ok (.getfield 21, 3) := dk_180 0 21 (dk_at dksX2_wentAll_0 11 rfl rfl)
theorem dX2_wentAll_14 : decode cX2_wentAll 14 = .ok (.iload_n 2, 1) := dk_28 (dk_at dksX2_wentAll_0 14 rfl rfl)
theorem dX2_wentAll_15 : decode cX2_wentAll 15 = .ok (.iaload, 1) := dk_46 (dk_at dksX2_wentAll_0 15 rfl rfl)
theorem dX2_wentAll_16 : decode cX2_wentAll 16 = .ok (.iadd, 1) := dk_96 (dk_at dksX2_wentAll_0 16 rfl rfl)
theorem dX2_wentAll_17 : decode cX2_wentAll 17 = .ok (.istore_n 1, 1) := dk_60 (dk_at dksX2_wentAll_0 17 rfl rfl)
theorem dX2_wentAll_18 : decode cX2_wentAll 18 = .ok (.iinc 2 1, 3) := dk_132 2 1 (dk_at dksX2_wentAll_0 18 rfl rfl)
theorem dX2_wentAll_21 : decode cX2_wentAll 21 = .ok (.goto (-17), 3) := dk_167 255 239 (dk_at dksX2_wentAll_0 21 rfl rfl)
theorem dX2_wentAll_24 : decode cX2_wentAll 24 = .ok (.iload_n 1, 1) := dk_27 (dk_at dksX2_wentAll_1 0 rfl rfl)
theorem dX2_wentAll_25 : decode cX2_wentAll 25 = .ok (.ireturn, 1) := dk_172 (dk_at dksX2_wentAll_1 1 rfl rfl)
theorem q155 : (Jvm.Cond.initialized "OutwardDoors$State") ∈ lw_all := lw_g (lw_at lw_m1 6 rfl) rfl
theorem q228 : (Jvm.Cond.fieldLinkNest "OutwardDoors$State" (37 : Nat) "OutwardDoors$Castle" "people" "Ljava/util/ArrayList;" "OutwardDoors") ∈ lw_tbl := lw_at lw_m1 79 rfl
theorem q258 : (Jvm.Cond.instantiable "OutwardDoors$State" (6 : Nat)) ∈ lw_all := lw_g (lw_at lw_m1 109 rfl) rfl
theorem q260 : (Jvm.Cond.instanceMethod ({ cls := "OutwardDoors$State", name := "<init>", desc := "()V" } : Jvm.MethodName)) ∈ lw_all := lw_g (lw_at lw_m1 111 rfl) rfl
theorem q261 : (Jvm.Cond.code ({ cls := "OutwardDoors$State", name := "<init>", desc := "()V" } : Jvm.MethodName) prog_15_method_1_code (1 : Nat) (Option.none : Option Jvm.ClassFile.FieldType)) ∈ lw_all := lw_g (lw_at lw_m1 112 rfl) rfl
theorem q262 : (Jvm.Cond.methodLink "OutwardDoors$State" (3 : Nat) ({ cls := "java/lang/Object", name := "<init>", desc := "()V" } : Jvm.MethodName)) ∈ lw_all := lw_g (lw_at lw_m1 113 rfl) rfl
theorem q263 : (Jvm.Cond.fieldLink "OutwardDoors$State" (9 : Nat) "OutwardDoors$State" "room" "[I") ∈ lw_all := lw_g (lw_at lw_m1 114 rfl) rfl
theorem q265 : (Jvm.Cond.fieldLink "OutwardDoors$State" (15 : Nat) "OutwardDoors$State" "goal" "[I") ∈ lw_all := lw_g (lw_at lw_m1 116 rfl) rfl
theorem q267 : (Jvm.Cond.fieldLink "OutwardDoors$State" (18 : Nat) "OutwardDoors$State" "came" "[I") ∈ lw_all := lw_g (lw_at lw_m1 118 rfl) rfl
theorem q269 : (Jvm.Cond.fieldLink "OutwardDoors$State" (21 : Nat) "OutwardDoors$State" "went" "[I") ∈ lw_all := lw_g (lw_at lw_m1 120 rfl) rfl
theorem q271 : (Jvm.Cond.fieldLink "OutwardDoors$State" (24 : Nat) "OutwardDoors$State" "by" "[I") ∈ lw_all := lw_g (lw_at lw_m1 122 rfl) rfl
theorem q273 : (Jvm.Cond.fieldLink "OutwardDoors$State" (27 : Nat) "OutwardDoors$State" "moment" "I") ∈ lw_all := lw_g (lw_at lw_m1 124 rfl) rfl
theorem q275 : (Jvm.Cond.laysFinal "OutwardDoors$State" "OutwardDoors$State" "room" "[I") ∈ lw_all := lw_g (lw_at lw_m1 126 rfl) rfl
theorem q276 : (Jvm.Cond.soleField "OutwardDoors$State" "room") ∈ lw_all := lw_g (lw_at lw_m1 127 rfl) rfl
theorem q277 : (Jvm.Cond.laysFinal "OutwardDoors$State" "OutwardDoors$State" "goal" "[I") ∈ lw_all := lw_g (lw_at lw_m1 128 rfl) rfl
theorem q278 : (Jvm.Cond.soleField "OutwardDoors$State" "goal") ∈ lw_all := lw_g (lw_at lw_m1 129 rfl) rfl
theorem q279 : (Jvm.Cond.laysFinal "OutwardDoors$State" "OutwardDoors$State" "came" "[I") ∈ lw_all := lw_g (lw_at lw_m1 130 rfl) rfl
theorem q280 : (Jvm.Cond.soleField "OutwardDoors$State" "came") ∈ lw_all := lw_g (lw_at lw_m1 131 rfl) rfl
theorem q281 : (Jvm.Cond.laysFinal "OutwardDoors$State" "OutwardDoors$State" "went" "[I") ∈ lw_all := lw_g (lw_at lw_m1 132 rfl) rfl
theorem q282 : (Jvm.Cond.soleField "OutwardDoors$State" "went") ∈ lw_all := lw_g (lw_at lw_m1 133 rfl) rfl
theorem q283 : (Jvm.Cond.laysFinal "OutwardDoors$State" "OutwardDoors$State" "by" "[I") ∈ lw_all := lw_g (lw_at lw_m1 134 rfl) rfl
theorem q284 : (Jvm.Cond.soleField "OutwardDoors$State" "by") ∈ lw_all := lw_g (lw_at lw_m1 135 rfl) rfl
theorem q285 : (Jvm.Cond.lays "OutwardDoors$State" "OutwardDoors$State" "moment" "I") ∈ lw_all := lw_g (lw_at lw_m1 136 rfl) rfl
theorem q286 : (Jvm.Cond.soleField "OutwardDoors$State" "moment") ∈ lw_all := lw_g (lw_at lw_m1 137 rfl) rfl
theorem q287 : (Jvm.Cond.superclass "OutwardDoors$State" "java/lang/Object") ∈ lw_all := lw_g (lw_at lw_m1 138 rfl) rfl
theorem q714 : (Jvm.Cond.selects "OutwardDoors$State" ({ cls := "java/lang/Object", name := "getClass", desc := "()Ljava/lang/Class;" } : Jvm.MethodName) ({ cls := "java/lang/Object", name := "getClass", desc := "()Ljava/lang/Class;" } : Jvm.MethodName)) ∈ lw_all := lw_g (lw_at lw_m3 85 rfl) rfl
theorem q754 : (Jvm.Cond.fieldLinkNest "OutwardDoors$State" (49 : Nat) "OutwardDoors$Person" "room" "I" "OutwardDoors") ∈ lw_tbl := lw_at lw_m3 125 rfl
theorem q756 : (Jvm.Cond.fieldLinkNest "OutwardDoors$State" (51 : Nat) "OutwardDoors$Person" "goal" "I" "OutwardDoors") ∈ lw_tbl := lw_at lw_m3 127 rfl
theorem q771 : (Jvm.Cond.instanceMethod ({ cls := "OutwardDoors$State", name := "begin", desc := "(LOutwardDoors$Castle;)V" } : Jvm.MethodName)) ∈ lw_all := lw_g (lw_at lw_m3 142 rfl) rfl
theorem q772 : (Jvm.Cond.selects "OutwardDoors$State" ({ cls := "OutwardDoors$State", name := "begin", desc := "(LOutwardDoors$Castle;)V" } : Jvm.MethodName) ({ cls := "OutwardDoors$State", name := "begin", desc := "(LOutwardDoors$Castle;)V" } : Jvm.MethodName)) ∈ lw_all := lw_g (lw_at lw_m3 143 rfl) rfl
theorem q773 : (Jvm.Cond.code ({ cls := "OutwardDoors$State", name := "begin", desc := "(LOutwardDoors$Castle;)V" } : Jvm.MethodName) prog_15_method_3_code (4 : Nat) (Option.none : Option Jvm.ClassFile.FieldType)) ∈ lw_all := lw_g (lw_at lw_m3 144 rfl) rfl
theorem q774 : (Jvm.Cond.methodLink "OutwardDoors$State" (31 : Nat) ({ cls := "OutwardDoors$Castle", name := "many", desc := "()I" } : Jvm.MethodName)) ∈ lw_all := lw_g (lw_at lw_m3 145 rfl) rfl
theorem q775 : (Jvm.Cond.methodLink "OutwardDoors$State" (41 : Nat) ({ cls := "java/util/ArrayList", name := "get", desc := "(I)Ljava/lang/Object;" } : Jvm.MethodName)) ∈ lw_all := lw_g (lw_at lw_m3 146 rfl) rfl
theorem q776 : (Jvm.Cond.classLink "OutwardDoors$State" (47 : Nat) "OutwardDoors$Person") ∈ lw_all := lw_g (lw_at lw_m3 147 rfl) rfl
theorem q1036 : (Jvm.Cond.instanceMethod ({ cls := "OutwardDoors$State", name := "copyFrom", desc := "(LOutwardDoors$State;)V" } : Jvm.MethodName)) ∈ lw_all := lw_g (lw_at lw_m4 167 rfl) rfl
theorem q1037 : (Jvm.Cond.selects "OutwardDoors$State" ({ cls := "OutwardDoors$State", name := "copyFrom", desc := "(LOutwardDoors$State;)V" } : Jvm.MethodName) ({ cls := "OutwardDoors$State", name := "copyFrom", desc := "(LOutwardDoors$State;)V" } : Jvm.MethodName)) ∈ lw_all := lw_g (lw_at lw_m4 168 rfl) rfl
theorem q1038 : (Jvm.Cond.code ({ cls := "OutwardDoors$State", name := "copyFrom", desc := "(LOutwardDoors$State;)V" } : Jvm.MethodName) prog_15_method_2_code (3 : Nat) (Option.none : Option Jvm.ClassFile.FieldType)) ∈ lw_all := lw_g (lw_at lw_m4 169 rfl) rfl
theorem q1124 : (Jvm.Cond.instanceMethod ({ cls := "OutwardDoors$State", name := "goesOut", desc := "(II)V" } : Jvm.MethodName)) ∈ lw_all := lw_g (lw_at lw_m5 15 rfl) rfl
theorem q1125 : (Jvm.Cond.selects "OutwardDoors$State" ({ cls := "OutwardDoors$State", name := "goesOut", desc := "(II)V" } : Jvm.MethodName) ({ cls := "OutwardDoors$State", name := "goesOut", desc := "(II)V" } : Jvm.MethodName)) ∈ lw_all := lw_g (lw_at lw_m5 16 rfl) rfl
theorem q1126 : (Jvm.Cond.code ({ cls := "OutwardDoors$State", name := "goesOut", desc := "(II)V" } : Jvm.MethodName) prog_15_method_4_code (3 : Nat) (Option.none : Option Jvm.ClassFile.FieldType)) ∈ lw_all := lw_g (lw_at lw_m5 17 rfl) rfl
theorem q1128 : (Jvm.Cond.instanceMethod ({ cls := "OutwardDoors$State", name := "comesIn", desc := "(III)V" } : Jvm.MethodName)) ∈ lw_all := lw_g (lw_at lw_m5 19 rfl) rfl
theorem q1129 : (Jvm.Cond.selects "OutwardDoors$State" ({ cls := "OutwardDoors$State", name := "comesIn", desc := "(III)V" } : Jvm.MethodName) ({ cls := "OutwardDoors$State", name := "comesIn", desc := "(III)V" } : Jvm.MethodName)) ∈ lw_all := lw_g (lw_at lw_m5 20 rfl) rfl
theorem q1130 : (Jvm.Cond.code ({ cls := "OutwardDoors$State", name := "comesIn", desc := "(III)V" } : Jvm.MethodName) prog_15_method_5_code (4 : Nat) (Option.none : Option Jvm.ClassFile.FieldType)) ∈ lw_all := lw_g (lw_at lw_m5 21 rfl) rfl
theorem q1287 : (Jvm.Cond.instanceMethod ({ cls := "OutwardDoors$State", name := "cameAll", desc := "()I" } : Jvm.MethodName)) ∈ lw_all := lw_g (lw_at lw_m5 178 rfl) rfl
theorem q1288 : (Jvm.Cond.selects "OutwardDoors$State" ({ cls := "OutwardDoors$State", name := "cameAll", desc := "()I" } : Jvm.MethodName) ({ cls := "OutwardDoors$State", name := "cameAll", desc := "()I" } : Jvm.MethodName)) ∈ lw_all := lw_g (lw_at lw_m5 179 rfl) rfl
theorem q1289 : (Jvm.Cond.code ({ cls := "OutwardDoors$State", name := "cameAll", desc := "()I" } : Jvm.MethodName) prog_15_method_6_code (3 : Nat) (Option.some Jvm.ClassFile.FieldType.int)) ∈ lw_all := lw_g (lw_at lw_m5 180 rfl) rfl
theorem q1291 : (Jvm.Cond.instanceMethod ({ cls := "OutwardDoors$State", name := "wentAll", desc := "()I" } : Jvm.MethodName)) ∈ lw_all := lw_g (lw_at lw_m5 182 rfl) rfl
theorem q1292 : (Jvm.Cond.selects "OutwardDoors$State" ({ cls := "OutwardDoors$State", name := "wentAll", desc := "()I" } : Jvm.MethodName) ({ cls := "OutwardDoors$State", name := "wentAll", desc := "()I" } : Jvm.MethodName)) ∈ lw_all := lw_g (lw_at lw_m5 183 rfl) rfl
theorem q1293 : (Jvm.Cond.code ({ cls := "OutwardDoors$State", name := "wentAll", desc := "()I" } : Jvm.MethodName) prog_15_method_7_code (3 : Nat) (Option.some Jvm.ClassFile.FieldType.int)) ∈ lw_all := lw_g (lw_at lw_m5 184 rfl) rfl
theorem q2003 : (Jvm.Cond.castable "OutwardDoors$State" "java/lang/Object") ∈ lw_tbl := lw_at lw_m8 174 rfl
theorem in_X2 : ∀ w ∈ wsX20, w ∈ lw_all := lw_in wsX20 [275, 277, 279, 281, 283, 285] (by decide +kernel) (by decide +kernel)

/-! OutwardDoors$Wrong -/
set_option maxRecDepth 100000
def RX3 : String := "OutwardDoors$Wrong"
def TX3 : u_T := fun k => match k with
  | 0 => ("java/lang/Throwable", "cause", "Ljava/lang/Throwable;", false)
  | 1 => ("java/lang/Throwable", "stackTrace", "[Ljava/lang/StackTraceElement;", false)
  | 2 => ("java/lang/Throwable", "suppressedExceptions", "Ljava/util/List;", false)
  | 3 => ("java/lang/Throwable", "detailMessage", "Ljava/lang/String;", false)
  | 4 => ("java/lang/Throwable", "backtrace", "Ljava/lang/Object;", false)
  | 5 => ("java/lang/Throwable", "depth", "I", false)
  | _ => ("OutwardDoors$Wrong", "number", "I", false)
def tyX3 : Nat → FieldType := fun k => match k with
  | 0 => .object "java/lang/Throwable"
  | 1 => .array (.object "java/lang/StackTraceElement")
  | 2 => .object "java/util/List"
  | 3 => .object "java/lang/String"
  | 4 => .object "java/lang/Object"
  | 5 => .int
  | _ => .int
abbrev wsX30 : List Cond := u_ws RX3 TX3 7
theorem nmX3 : ∀ a, a < 7 → ∀ b, b < 7 → a ≠ b → (TX3 a).2.1 ≠ (TX3 b).2.1 := by decide +kernel
theorem tyX3_ok : ∀ k, k < 7 → parseFieldDescriptor (TX3 k).2.2.1 = some (tyX3 k) := by decide +kernel
abbrev cX3_init : ByteArray := prog_18_method_1_code
def yX3_init : MethodName := ⟨RX3, "<init>", "()V"⟩
theorem dX3_init_0 : decode cX3_init 0 = .ok (.aload_n 0, 1) := by decide +kernel
theorem dX3_init_1 : decode cX3_init 1 = .ok (.invokespecial 1, 3) := by decide +kernel
theorem dX3_init_4 : decode cX3_init 4 = .ok (.return_, 1) := by decide +kernel
theorem q158 : (Jvm.Cond.initialized "OutwardDoors$Wrong") ∈ lw_all := lw_g (lw_at lw_m1 9 rfl) rfl
theorem q291 : (Jvm.Cond.instantiable "OutwardDoors$Wrong" (7 : Nat)) ∈ lw_all := lw_g (lw_at lw_m1 142 rfl) rfl
theorem q292 : (Jvm.Cond.castable "OutwardDoors$Wrong" "OutwardDoors$Wrong") ∈ lw_tbl := lw_at lw_m1 143 rfl
theorem q297 : (Jvm.Cond.selects "OutwardDoors$Wrong" ({ cls := "java/lang/Throwable", name := "fillInStackTrace", desc := "(I)Ljava/lang/Throwable;" } : Jvm.MethodName) ({ cls := "java/lang/Throwable", name := "fillInStackTrace", desc := "(I)Ljava/lang/Throwable;" } : Jvm.MethodName)) ∈ lw_all := lw_g (lw_at lw_m1 148 rfl) rfl
theorem q298 : (Jvm.Cond.selects "OutwardDoors$Wrong" ({ cls := "java/lang/Throwable", name := "fillInStackTrace", desc := "()Ljava/lang/Throwable;" } : Jvm.MethodName) ({ cls := "java/lang/Throwable", name := "fillInStackTrace", desc := "()Ljava/lang/Throwable;" } : Jvm.MethodName)) ∈ lw_all := lw_g (lw_at lw_m1 149 rfl) rfl
theorem q299 : (Jvm.Cond.lays "OutwardDoors$Wrong" "java/lang/Throwable" "cause" "Ljava/lang/Throwable;") ∈ lw_all := lw_g (lw_at lw_m1 150 rfl) rfl
theorem q301 : (Jvm.Cond.lays "OutwardDoors$Wrong" "java/lang/Throwable" "stackTrace" "[Ljava/lang/StackTraceElement;") ∈ lw_all := lw_g (lw_at lw_m1 152 rfl) rfl
theorem q303 : (Jvm.Cond.lays "OutwardDoors$Wrong" "java/lang/Throwable" "suppressedExceptions" "Ljava/util/List;") ∈ lw_all := lw_g (lw_at lw_m1 154 rfl) rfl
theorem q305 : (Jvm.Cond.lays "OutwardDoors$Wrong" "java/lang/Throwable" "detailMessage" "Ljava/lang/String;") ∈ lw_all := lw_g (lw_at lw_m1 156 rfl) rfl
theorem q307 : (Jvm.Cond.lays "OutwardDoors$Wrong" "java/lang/Throwable" "backtrace" "Ljava/lang/Object;") ∈ lw_all := lw_g (lw_at lw_m1 158 rfl) rfl
theorem q328 : (Jvm.Cond.instanceMethod ({ cls := "OutwardDoors$Wrong", name := "<init>", desc := "()V" } : Jvm.MethodName)) ∈ lw_all := lw_g (lw_at lw_m1 179 rfl) rfl
theorem q329 : (Jvm.Cond.code ({ cls := "OutwardDoors$Wrong", name := "<init>", desc := "()V" } : Jvm.MethodName) prog_18_method_1_code (1 : Nat) (Option.none : Option Jvm.ClassFile.FieldType)) ∈ lw_all := lw_g (lw_at lw_m1 180 rfl) rfl
theorem q330 : (Jvm.Cond.methodLink "OutwardDoors$Wrong" (1 : Nat) ({ cls := "java/lang/Exception", name := "<init>", desc := "()V" } : Jvm.MethodName)) ∈ lw_all := lw_g (lw_at lw_m1 181 rfl) rfl
theorem q339 : (Jvm.Cond.lays "OutwardDoors$Wrong" "OutwardDoors$Wrong" "number" "I") ∈ lw_all := lw_g (lw_at lw_m1 190 rfl) rfl
theorem q340 : (Jvm.Cond.soleField "OutwardDoors$Wrong" "number") ∈ lw_all := lw_g (lw_at lw_m1 191 rfl) rfl
theorem q345 : (Jvm.Cond.lays "OutwardDoors$Wrong" "java/lang/Throwable" "depth" "I") ∈ lw_all := lw_g (lw_at lw_m1 196 rfl) rfl
theorem q348 : (Jvm.Cond.superclass "OutwardDoors$Wrong" "java/lang/Exception") ∈ lw_all := lw_g (lw_at lw_m1 199 rfl) rfl
theorem q716 : (Jvm.Cond.selects "OutwardDoors$Wrong" ({ cls := "java/lang/Object", name := "getClass", desc := "()Ljava/lang/Class;" } : Jvm.MethodName) ({ cls := "java/lang/Object", name := "getClass", desc := "()Ljava/lang/Class;" } : Jvm.MethodName)) ∈ lw_all := lw_g (lw_at lw_m3 87 rfl) rfl
theorem q2009 : (Jvm.Cond.castable "OutwardDoors$Wrong" "java/lang/Object") ∈ lw_tbl := lw_at lw_m8 180 rfl
theorem in_X3 : ∀ w ∈ wsX30, w ∈ lw_all := lw_in wsX30 [299, 301, 303, 305, 307, 345, 339] (by decide +kernel) (by decide +kernel)

/-! OutwardDoors$Door -/
set_option maxRecDepth 100000
def RX6 : String := "OutwardDoors$Door"
def TX6 : u_T := fun k => match k with
  | 0 => ("OutwardDoors$Door", "one", "I", true)
  | 1 => ("OutwardDoors$Door", "other", "I", true)
  | _ => ("OutwardDoors$Door", "isWindow", "Z", true)
def tyX6 : Nat → FieldType := fun k => match k with
  | 0 => .int
  | 1 => .int
  | _ => .boolean
abbrev wsX60 : List Cond := u_ws RX6 TX6 3
theorem nmX6 : ∀ a, a < 3 → ∀ b, b < 3 → a ≠ b → (TX6 a).2.1 ≠ (TX6 b).2.1 := by decide +kernel
theorem tyX6_ok : ∀ k, k < 3 → parseFieldDescriptor (TX6 k).2.2.1 = some (tyX6 k) := by decide +kernel
abbrev cX6_joins : ByteArray := prog_7_method_2_code
def yX6_joins : MethodName := ⟨RX6, "joins", "(II)Z"⟩
def dkwX6_joins_1 : List UInt8 := [42, 180, 0, 13, 27, 160, 0, 7, 4, 167, 0, 4, 3, 172]
abbrev dktX6_joins_1 : List UInt8 := dkwX6_joins_1 ++ []
def dkwX6_joins_0 : List UInt8 := [42, 180, 0, 7, 27, 160, 0, 11, 42, 180, 0, 13, 28, 159, 0, 19, 42, 180, 0, 7, 28, 160, 0, 15]
abbrev dktX6_joins_0 : List UInt8 := dkwX6_joins_0 ++ dktX6_joins_1
theorem dksX6_joins_0 : cX6_joins.data.toList.drop 0 = dktX6_joins_0 := by decide +kernel
theorem dksX6_joins_1 : cX6_joins.data.toList.drop 24 = dktX6_joins_1 := dk_seg dksX6_joins_0 24 rfl rfl
theorem dX6_joins_0 : decode cX6_joins 0 = .ok (.aload_n 0, 1) := dk_42 (dk_at dksX6_joins_0 0 rfl rfl)
theorem dX6_joins_1 : decode cX6_joins 1 = .ok (.getfield 7, 3) := dk_180 0 7 (dk_at dksX6_joins_0 1 rfl rfl)
theorem dX6_joins_4 : decode cX6_joins 4 = .ok (.iload_n 1, 1) := dk_27 (dk_at dksX6_joins_0 4 rfl rfl)
theorem dX6_joins_5 : decode cX6_joins 5 = .ok (.if_icmp .ne 11, 3) := dk_160 0 11 (dk_at dksX6_joins_0 5 rfl rfl)
theorem dX6_joins_8 : decode cX6_joins 8 = .ok (.aload_n 0, 1) := dk_42 (dk_at dksX6_joins_0 8 rfl rfl)
theorem dX6_joins_9 : decode cX6_joins 9 = .ok (.getfield 13, 3) := dk_180 0 13 (dk_at dksX6_joins_0 9 rfl rfl)
theorem dX6_joins_12 : decode cX6_joins 12 = .ok (.iload_n 2, 1) := dk_28 (dk_at dksX6_joins_0 12 rfl rfl)
theorem dX6_joins_13 : decode cX6_joins 13 = .ok (.if_icmp .eq 19, 3) := dk_159 0 19 (dk_at dksX6_joins_0 13 rfl rfl)
theorem dX6_joins_16 : decode cX6_joins 16 = .ok (.aload_n 0, 1) := dk_42 (dk_at dksX6_joins_0 16 rfl rfl)
theorem dX6_joins_17 : decode cX6_joins 17 = .ok (.getfield 7, 3) := dk_180 0 7 (dk_at dksX6_joins_0 17 rfl rfl)
theorem dX6_joins_20 : decode cX6_joins 20 = .ok (.iload_n 2, 1) := dk_28 (dk_at dksX6_joins_0 20 rfl rfl)
theorem dX6_joins_21 : decode cX6_joins 21 = .ok (.if_icmp .ne 15, 3) := dk_160 0 15 (dk_at dksX6_joins_0 21 rfl rfl)
theorem dX6_joins_24 : decode cX6_joins 24 = .ok (.aload_n 0, 1) := dk_42 (dk_at dksX6_joins_1 0 rfl rfl)
theorem dX6_joins_25 : decode cX6_joins 25 = .ok (.getfield 13, 3) := dk_180 0 13 (dk_at dksX6_joins_1 1 rfl rfl)
theorem dX6_joins_28 : decode cX6_joins 28 = .ok (.iload_n 1, 1) := dk_27 (dk_at dksX6_joins_1 4 rfl rfl)
theorem dX6_joins_29 : decode cX6_joins 29 = .ok (.if_icmp .ne 7, 3) := dk_160 0 7 (dk_at dksX6_joins_1 5 rfl rfl)
theorem dX6_joins_32 : decode cX6_joins 32 = .ok (.iconst 1, 1) := dk_4 (dk_at dksX6_joins_1 8 rfl rfl)
theorem dX6_joins_33 : decode cX6_joins 33 = .ok (.goto 4, 3) := dk_167 0 4 (dk_at dksX6_joins_1 9 rfl rfl)
theorem dX6_joins_36 : decode cX6_joins 36 = .ok (.iconst 0, 1) := dk_3 (dk_at dksX6_joins_1 12 rfl rfl)
theorem dX6_joins_37 : decode cX6_joins 37 = .ok (.ireturn, 1) := dk_172 (dk_at dksX6_joins_1 13 rfl rfl)
abbrev cX6_init : ByteArray := prog_7_method_1_code
def yX6_init : MethodName := ⟨RX6, "<init>", "(IIZ)V"⟩
def dkwX6_init_0 : List UInt8 := [42, 183, 0, 1, 42, 27, 181, 0, 7, 42, 28, 181, 0, 13, 42, 29, 181, 0, 16, 177]
abbrev dktX6_init_0 : List UInt8 := dkwX6_init_0 ++ []
theorem dksX6_init_0 : cX6_init.data.toList.drop 0 = dktX6_init_0 := by decide +kernel
theorem dX6_init_0 : decode cX6_init 0 = .ok (.aload_n 0, 1) := dk_42 (dk_at dksX6_init_0 0 rfl rfl)
theorem dX6_init_1 : decode cX6_init 1 = .ok (.invokespecial 1, 3) := dk_183 0 1 (dk_at dksX6_init_0 1 rfl rfl)
theorem dX6_init_4 : decode cX6_init 4 = .ok (.aload_n 0, 1) := dk_42 (dk_at dksX6_init_0 4 rfl rfl)
theorem dX6_init_5 : decode cX6_init 5 = .ok (.iload_n 1, 1) := dk_27 (dk_at dksX6_init_0 5 rfl rfl)
theorem dX6_init_6 : decode cX6_init 6 = .ok (.putfield 7, 3) := dk_181 0 7 (dk_at dksX6_init_0 6 rfl rfl)
theorem dX6_init_9 : decode cX6_init 9 = .ok (.aload_n 0, 1) := dk_42 (dk_at dksX6_init_0 9 rfl rfl)
theorem dX6_init_10 : decode cX6_init 10 = .ok (.iload_n 2, 1) := dk_28 (dk_at dksX6_init_0 10 rfl rfl)
theorem dX6_init_11 : decode cX6_init 11 = .ok (.putfield 13, 3) := dk_181 0 13 (dk_at dksX6_init_0 11 rfl rfl)
theorem dX6_init_14 : decode cX6_init 14 = .ok (.aload_n 0, 1) := dk_42 (dk_at dksX6_init_0 14 rfl rfl)
theorem dX6_init_15 : decode cX6_init 15 = .ok (.iload_n 3, 1) := dk_29 (dk_at dksX6_init_0 15 rfl rfl)
theorem dX6_init_16 : decode cX6_init 16 = .ok (.putfield 16, 3) := dk_181 0 16 (dk_at dksX6_init_0 16 rfl rfl)
theorem dX6_init_19 : decode cX6_init 19 = .ok (.return_, 1) := dk_177 (dk_at dksX6_init_0 19 rfl rfl)
theorem q167 : (Jvm.Cond.initialized "OutwardDoors$Door") ∈ lw_all := lw_g (lw_at lw_m1 18 rfl) rfl
theorem q641 : (Jvm.Cond.instanceMethod ({ cls := "OutwardDoors$Door", name := "joins", desc := "(II)Z" } : Jvm.MethodName)) ∈ lw_all := lw_g (lw_at lw_m3 12 rfl) rfl
theorem q642 : (Jvm.Cond.selects "OutwardDoors$Door" ({ cls := "OutwardDoors$Door", name := "joins", desc := "(II)Z" } : Jvm.MethodName) ({ cls := "OutwardDoors$Door", name := "joins", desc := "(II)Z" } : Jvm.MethodName)) ∈ lw_all := lw_g (lw_at lw_m3 13 rfl) rfl
theorem q643 : (Jvm.Cond.code ({ cls := "OutwardDoors$Door", name := "joins", desc := "(II)Z" } : Jvm.MethodName) prog_7_method_2_code (3 : Nat) (Option.some Jvm.ClassFile.FieldType.boolean)) ∈ lw_all := lw_g (lw_at lw_m3 14 rfl) rfl
theorem q645 : (Jvm.Cond.instantiable "OutwardDoors$Door" (3 : Nat)) ∈ lw_all := lw_g (lw_at lw_m3 16 rfl) rfl
theorem q647 : (Jvm.Cond.instanceMethod ({ cls := "OutwardDoors$Door", name := "<init>", desc := "(IIZ)V" } : Jvm.MethodName)) ∈ lw_all := lw_g (lw_at lw_m3 18 rfl) rfl
theorem q648 : (Jvm.Cond.code ({ cls := "OutwardDoors$Door", name := "<init>", desc := "(IIZ)V" } : Jvm.MethodName) prog_7_method_1_code (4 : Nat) (Option.none : Option Jvm.ClassFile.FieldType)) ∈ lw_all := lw_g (lw_at lw_m3 19 rfl) rfl
theorem q649 : (Jvm.Cond.methodLink "OutwardDoors$Door" (1 : Nat) ({ cls := "java/lang/Record", name := "<init>", desc := "()V" } : Jvm.MethodName)) ∈ lw_all := lw_g (lw_at lw_m3 20 rfl) rfl
theorem q653 : (Jvm.Cond.fieldLink "OutwardDoors$Door" (7 : Nat) "OutwardDoors$Door" "one" "I") ∈ lw_all := lw_g (lw_at lw_m3 24 rfl) rfl
theorem q655 : (Jvm.Cond.fieldLink "OutwardDoors$Door" (13 : Nat) "OutwardDoors$Door" "other" "I") ∈ lw_all := lw_g (lw_at lw_m3 26 rfl) rfl
theorem q657 : (Jvm.Cond.fieldLink "OutwardDoors$Door" (16 : Nat) "OutwardDoors$Door" "isWindow" "Z") ∈ lw_all := lw_g (lw_at lw_m3 28 rfl) rfl
theorem q660 : (Jvm.Cond.laysFinal "OutwardDoors$Door" "OutwardDoors$Door" "one" "I") ∈ lw_all := lw_g (lw_at lw_m3 31 rfl) rfl
theorem q661 : (Jvm.Cond.soleField "OutwardDoors$Door" "one") ∈ lw_all := lw_g (lw_at lw_m3 32 rfl) rfl
theorem q662 : (Jvm.Cond.laysFinal "OutwardDoors$Door" "OutwardDoors$Door" "other" "I") ∈ lw_all := lw_g (lw_at lw_m3 33 rfl) rfl
theorem q663 : (Jvm.Cond.soleField "OutwardDoors$Door" "other") ∈ lw_all := lw_g (lw_at lw_m3 34 rfl) rfl
theorem q664 : (Jvm.Cond.laysFinal "OutwardDoors$Door" "OutwardDoors$Door" "isWindow" "Z") ∈ lw_all := lw_g (lw_at lw_m3 35 rfl) rfl
theorem q665 : (Jvm.Cond.soleField "OutwardDoors$Door" "isWindow") ∈ lw_all := lw_g (lw_at lw_m3 36 rfl) rfl
theorem q666 : (Jvm.Cond.superclass "OutwardDoors$Door" "java/lang/Record") ∈ lw_all := lw_g (lw_at lw_m3 37 rfl) rfl
theorem q706 : (Jvm.Cond.selects "OutwardDoors$Door" ({ cls := "java/lang/Object", name := "getClass", desc := "()Ljava/lang/Class;" } : Jvm.MethodName) ({ cls := "java/lang/Object", name := "getClass", desc := "()Ljava/lang/Class;" } : Jvm.MethodName)) ∈ lw_all := lw_g (lw_at lw_m3 77 rfl) rfl
theorem q2012 : (Jvm.Cond.castable "OutwardDoors$Door" "java/lang/Object") ∈ lw_tbl := lw_at lw_m8 183 rfl
theorem in_X6 : ∀ w ∈ wsX60, w ∈ lw_all := lw_in wsX60 [660, 662, 664] (by decide +kernel) (by decide +kernel)

/-! OutwardDoors$Person -/
set_option maxRecDepth 100000
def RX7 : String := "OutwardDoors$Person"
def TX7 : u_T := fun k => match k with
  | 0 => ("OutwardDoors$Person", "room", "I", true)
  | 1 => ("OutwardDoors$Person", "goal", "I", true)
  | _ => ("OutwardDoors$Person", "pay", "I", true)
def tyX7 : Nat → FieldType := fun k => match k with
  | 0 => .int
  | 1 => .int
  | _ => .int
abbrev wsX70 : List Cond := u_ws RX7 TX7 3
theorem nmX7 : ∀ a, a < 3 → ∀ b, b < 3 → a ≠ b → (TX7 a).2.1 ≠ (TX7 b).2.1 := by decide +kernel
theorem tyX7_ok : ∀ k, k < 3 → parseFieldDescriptor (TX7 k).2.2.1 = some (tyX7 k) := by decide +kernel
abbrev cX7_init : ByteArray := prog_12_method_1_code
def yX7_init : MethodName := ⟨RX7, "<init>", "(III)V"⟩
def dkwX7_init_0 : List UInt8 := [42, 183, 0, 1, 42, 27, 181, 0, 7, 42, 28, 181, 0, 13, 42, 29, 181, 0, 16, 177]
abbrev dktX7_init_0 : List UInt8 := dkwX7_init_0 ++ []
theorem dksX7_init_0 : cX7_init.data.toList.drop 0 = dktX7_init_0 := by decide +kernel
theorem dX7_init_0 : decode cX7_init 0 = .ok (.aload_n 0, 1) := dk_42 (dk_at dksX7_init_0 0 rfl rfl)
theorem dX7_init_1 : decode cX7_init 1 = .ok (.invokespecial 1, 3) := dk_183 0 1 (dk_at dksX7_init_0 1 rfl rfl)
theorem dX7_init_4 : decode cX7_init 4 = .ok (.aload_n 0, 1) := dk_42 (dk_at dksX7_init_0 4 rfl rfl)
theorem dX7_init_5 : decode cX7_init 5 = .ok (.iload_n 1, 1) := dk_27 (dk_at dksX7_init_0 5 rfl rfl)
theorem dX7_init_6 : decode cX7_init 6 = .ok (.putfield 7, 3) := dk_181 0 7 (dk_at dksX7_init_0 6 rfl rfl)
theorem dX7_init_9 : decode cX7_init 9 = .ok (.aload_n 0, 1) := dk_42 (dk_at dksX7_init_0 9 rfl rfl)
theorem dX7_init_10 : decode cX7_init 10 = .ok (.iload_n 2, 1) := dk_28 (dk_at dksX7_init_0 10 rfl rfl)
theorem dX7_init_11 : decode cX7_init 11 = .ok (.putfield 13, 3) := dk_181 0 13 (dk_at dksX7_init_0 11 rfl rfl)
theorem dX7_init_14 : decode cX7_init 14 = .ok (.aload_n 0, 1) := dk_42 (dk_at dksX7_init_0 14 rfl rfl)
theorem dX7_init_15 : decode cX7_init 15 = .ok (.iload_n 3, 1) := dk_29 (dk_at dksX7_init_0 15 rfl rfl)
theorem dX7_init_16 : decode cX7_init 16 = .ok (.putfield 16, 3) := dk_181 0 16 (dk_at dksX7_init_0 16 rfl rfl)
theorem dX7_init_19 : decode cX7_init 19 = .ok (.return_, 1) := dk_177 (dk_at dksX7_init_0 19 rfl rfl)
theorem q172 : (Jvm.Cond.initialized "OutwardDoors$Person") ∈ lw_all := lw_g (lw_at lw_m1 23 rfl) rfl
theorem q711 : (Jvm.Cond.selects "OutwardDoors$Person" ({ cls := "java/lang/Object", name := "getClass", desc := "()Ljava/lang/Class;" } : Jvm.MethodName) ({ cls := "java/lang/Object", name := "getClass", desc := "()Ljava/lang/Class;" } : Jvm.MethodName)) ∈ lw_all := lw_g (lw_at lw_m3 82 rfl) rfl
theorem q748 : (Jvm.Cond.instantiable "OutwardDoors$Person" (3 : Nat)) ∈ lw_all := lw_g (lw_at lw_m3 119 rfl) rfl
theorem q750 : (Jvm.Cond.instanceMethod ({ cls := "OutwardDoors$Person", name := "<init>", desc := "(III)V" } : Jvm.MethodName)) ∈ lw_all := lw_g (lw_at lw_m3 121 rfl) rfl
theorem q751 : (Jvm.Cond.code ({ cls := "OutwardDoors$Person", name := "<init>", desc := "(III)V" } : Jvm.MethodName) prog_12_method_1_code (4 : Nat) (Option.none : Option Jvm.ClassFile.FieldType)) ∈ lw_all := lw_g (lw_at lw_m3 122 rfl) rfl
theorem q752 : (Jvm.Cond.methodLink "OutwardDoors$Person" (1 : Nat) ({ cls := "java/lang/Record", name := "<init>", desc := "()V" } : Jvm.MethodName)) ∈ lw_all := lw_g (lw_at lw_m3 123 rfl) rfl
theorem q753 : (Jvm.Cond.fieldLink "OutwardDoors$Person" (7 : Nat) "OutwardDoors$Person" "room" "I") ∈ lw_all := lw_g (lw_at lw_m3 124 rfl) rfl
theorem q755 : (Jvm.Cond.fieldLink "OutwardDoors$Person" (13 : Nat) "OutwardDoors$Person" "goal" "I") ∈ lw_all := lw_g (lw_at lw_m3 126 rfl) rfl
theorem q757 : (Jvm.Cond.fieldLink "OutwardDoors$Person" (16 : Nat) "OutwardDoors$Person" "pay" "I") ∈ lw_all := lw_g (lw_at lw_m3 128 rfl) rfl
theorem q759 : (Jvm.Cond.laysFinal "OutwardDoors$Person" "OutwardDoors$Person" "room" "I") ∈ lw_all := lw_g (lw_at lw_m3 130 rfl) rfl
theorem q760 : (Jvm.Cond.soleField "OutwardDoors$Person" "room") ∈ lw_all := lw_g (lw_at lw_m3 131 rfl) rfl
theorem q761 : (Jvm.Cond.laysFinal "OutwardDoors$Person" "OutwardDoors$Person" "goal" "I") ∈ lw_all := lw_g (lw_at lw_m3 132 rfl) rfl
theorem q762 : (Jvm.Cond.soleField "OutwardDoors$Person" "goal") ∈ lw_all := lw_g (lw_at lw_m3 133 rfl) rfl
theorem q763 : (Jvm.Cond.laysFinal "OutwardDoors$Person" "OutwardDoors$Person" "pay" "I") ∈ lw_all := lw_g (lw_at lw_m3 134 rfl) rfl
theorem q764 : (Jvm.Cond.soleField "OutwardDoors$Person" "pay") ∈ lw_all := lw_g (lw_at lw_m3 135 rfl) rfl
theorem q765 : (Jvm.Cond.superclass "OutwardDoors$Person" "java/lang/Record") ∈ lw_all := lw_g (lw_at lw_m3 136 rfl) rfl
theorem q2013 : (Jvm.Cond.castable "OutwardDoors$Person" "java/lang/Object") ∈ lw_tbl := lw_at lw_m8 184 rfl
theorem in_X7 : ∀ w ∈ wsX70, w ∈ lw_all := lw_in wsX70 [759, 761, 763] (by decide +kernel) (by decide +kernel)

/-! OutwardDoors$Rule -/
set_option maxRecDepth 100000
def RX8 : String := "OutwardDoors$Rule"
def TX8 : u_T := fun k => match k with
  | _ => ("OutwardDoors$Rule", "all", "Ljava/util/ArrayList;", true)
def tyX8 : Nat → FieldType := fun k => match k with
  | _ => .object "java/util/ArrayList"
abbrev wsX80 : List Cond := u_ws RX8 TX8 1
theorem nmX8 : ∀ a, a < 1 → ∀ b, b < 1 → a ≠ b → (TX8 a).2.1 ≠ (TX8 b).2.1 := by decide +kernel
theorem tyX8_ok : ∀ k, k < 1 → parseFieldDescriptor (TX8 k).2.2.1 = some (tyX8 k) := by decide +kernel
abbrev cX8_init : ByteArray := prog_14_method_1_code
def yX8_init : MethodName := ⟨RX8, "<init>", "()V"⟩
def dkwX8_init_0 : List UInt8 := [42, 183, 0, 1, 42, 187, 0, 7, 89, 5, 183, 0, 9, 181, 0, 12, 177]
abbrev dktX8_init_0 : List UInt8 := dkwX8_init_0 ++ []
theorem dksX8_init_0 : cX8_init.data.toList.drop 0 = dktX8_init_0 := by decide +kernel
theorem dX8_init_0 : decode cX8_init 0 = .ok (.aload_n 0, 1) := dk_42 (dk_at dksX8_init_0 0 rfl rfl)
theorem dX8_init_1 : decode cX8_init 1 = .ok (.invokespecial 1, 3) := dk_183 0 1 (dk_at dksX8_init_0 1 rfl rfl)
theorem dX8_init_4 : decode cX8_init 4 = .ok (.aload_n 0, 1) := dk_42 (dk_at dksX8_init_0 4 rfl rfl)
theorem dX8_init_5 : decode cX8_init 5 = .ok (.new 7, 3) := dk_187 0 7 (dk_at dksX8_init_0 5 rfl rfl)
theorem dX8_init_8 : decode cX8_init 8 = .ok (.dup, 1) := dk_89 (dk_at dksX8_init_0 8 rfl rfl)
theorem dX8_init_9 : decode cX8_init 9 = .ok (.iconst 2, 1) := dk_5 (dk_at dksX8_init_0 9 rfl rfl)
theorem dX8_init_10 : decode cX8_init 10 = .ok (.invokespecial 9, 3) := dk_183 0 9 (dk_at dksX8_init_0 10 rfl rfl)
theorem dX8_init_13 : decode cX8_init 13 = .ok (.putfield 12, 3) := dk_181 0 12 (dk_at dksX8_init_0 13 rfl rfl)
theorem dX8_init_16 : decode cX8_init 16 = .ok (.return_, 1) := dk_177 (dk_at dksX8_init_0 16 rfl rfl)
abbrev cX8_goes : ByteArray := prog_14_method_2_code
def yX8_goes : MethodName := ⟨RX8, "goes", "([J)I"⟩
def dkwX8_goes_2 : List UInt8 := [182, 0, 36, 184, 0, 42, 172, 132, 2, 1, 167, 255, 202, 3, 172]
abbrev dktX8_goes_2 : List UInt8 := dkwX8_goes_2 ++ []
def dkwX8_goes_1 : List UInt8 := [43, 182, 0, 28, 153, 0, 25, 42, 180, 0, 12, 28, 182, 0, 22, 192, 0, 26, 180, 0, 32, 43]
abbrev dktX8_goes_1 : List UInt8 := dkwX8_goes_1 ++ dktX8_goes_2
def dkwX8_goes_0 : List UInt8 := [3, 61, 28, 42, 180, 0, 12, 182, 0, 18, 162, 0, 49, 42, 180, 0, 12, 28, 182, 0, 22, 192, 0, 26]
abbrev dktX8_goes_0 : List UInt8 := dkwX8_goes_0 ++ dktX8_goes_1
theorem dksX8_goes_0 : cX8_goes.data.toList.drop 0 = dktX8_goes_0 := by decide +kernel
theorem dksX8_goes_1 : cX8_goes.data.toList.drop 24 = dktX8_goes_1 := dk_seg dksX8_goes_0 24 rfl rfl
theorem dksX8_goes_2 : cX8_goes.data.toList.drop 46 = dktX8_goes_2 := dk_seg dksX8_goes_1 22 rfl rfl
theorem dX8_goes_0 : decode cX8_goes 0 = .ok (.iconst 0, 1) := dk_3 (dk_at dksX8_goes_0 0 rfl rfl)
theorem dX8_goes_1 : decode cX8_goes 1 = .ok (.istore_n 2, 1) := dk_61 (dk_at dksX8_goes_0 1 rfl rfl)
theorem dX8_goes_2 : decode cX8_goes 2 = .ok (.iload_n 2, 1) := dk_28 (dk_at dksX8_goes_0 2 rfl rfl)
theorem dX8_goes_3 : decode cX8_goes 3 = .ok (.aload_n 0, 1) := dk_42 (dk_at dksX8_goes_0 3 rfl rfl)
theorem dX8_goes_4 : decode cX8_goes 4 = .ok (.getfield 12, 3) := dk_180 0 12 (dk_at dksX8_goes_0 4 rfl rfl)
theorem dX8_goes_7 : decode cX8_goes 7 = .ok (.invokevirtual 18, 3) := dk_182 0 18 (dk_at dksX8_goes_0 7 rfl rfl)
theorem dX8_goes_10 : decode cX8_goes 10 = .ok (.if_icmp .ge 49, 3) := dk_162 0 49 (dk_at dksX8_goes_0 10 rfl rfl)
theorem dX8_goes_13 : decode cX8_goes 13 = .ok (.aload_n 0, 1) := dk_42 (dk_at dksX8_goes_0 13 rfl rfl)
theorem dX8_goes_14 : decode cX8_goes 14 = .ok (.getfield 12, 3) := dk_180 0 12 (dk_at dksX8_goes_0 14 rfl rfl)
theorem dX8_goes_17 : decode cX8_goes 17 = .ok (.iload_n 2, 1) := dk_28 (dk_at dksX8_goes_0 17 rfl rfl)
theorem dX8_goes_18 : decode cX8_goes 18 = .ok (.invokevirtual 22, 3) := dk_182 0 22 (dk_at dksX8_goes_0 18 rfl rfl)
theorem dX8_goes_21 : decode cX8_goes 21 = .ok (.checkcast 26, 3) := dk_192 0 26 (dk_at dksX8_goes_0 21 rfl rfl)
theorem dX8_goes_24 : decode cX8_goes 24 = .ok (.aload_n 1, 1) := dk_43 (dk_at dksX8_goes_1 0 rfl rfl)
theorem dX8_goes_25 : decode cX8_goes 25 = .ok (.invokevirtual 28, 3) := dk_182 0 28 (dk_at dksX8_goes_1 1 rfl rfl)
theorem dX8_goes_28 : decode cX8_goes 28 = .ok (.ifCond .eq 25, 3) := dk_153 0 25 (dk_at dksX8_goes_1 4 rfl rfl)
theorem dX8_goes_31 : decode cX8_goes 31 = .ok (.aload_n 0, 1) := dk_42 (dk_at dksX8_goes_1 7 rfl rfl)
theorem dX8_goes_32 : decode cX8_goes 32 = .ok (.getfield 12, 3) := dk_180 0 12 (dk_at dksX8_goes_1 8 rfl rfl)
theorem dX8_goes_35 : decode cX8_goes 35 = .ok (.iload_n 2, 1) := dk_28 (dk_at dksX8_goes_1 11 rfl rfl)
theorem dX8_goes_36 : decode cX8_goes 36 = .ok (.invokevirtual 22, 3) := dk_182 0 22 (dk_at dksX8_goes_1 12 rfl rfl)
theorem dX8_goes_39 : decode cX8_goes 39 = .ok (.checkcast 26, 3) := dk_192 0 26 (dk_at dksX8_goes_1 15 rfl rfl)
theorem dX8_goes_42 : decode cX8_goes 42 = .ok (.getfield 32, 3) := dk_180 0 32 (dk_at dksX8_goes_1 18 rfl rfl)
theorem dX8_goes_45 : decode cX8_goes 45 = .ok (.aload_n 1, 1) := dk_43 (dk_at dksX8_goes_1 21 rfl rfl)
theorem dX8_goes_46 : decode cX8_goes 46 = .ok (.invokevirtual 36, 3) := dk_182 0 36 (dk_at dksX8_goes_2 0 rfl rfl)
theorem dX8_goes_49 : decode cX8_goes 49 = .ok (.invokestatic 42, 3) := dk_184 0 42 (dk_at dksX8_goes_2 3 rfl rfl)
theorem dX8_goes_52 : decode cX8_goes 52 = .ok (.ireturn, 1) := dk_172 (dk_at dksX8_goes_2 6 rfl rfl)
theorem dX8_goes_53 : decode cX8_goes 53 = .ok (.iinc 2 1, 3) := dk_132 2 1 (dk_at dksX8_goes_2 7 rfl rfl)
theorem dX8_goes_56 : decode cX8_goes 56 = .ok (.goto (-54), 3) := dk_167 255 202 (dk_at dksX8_goes_2 10 rfl rfl)
theorem dX8_goes_59 : decode cX8_goes 59 = .ok (.iconst 0, 1) := dk_3 (dk_at dksX8_goes_2 13 rfl rfl)
theorem dX8_goes_60 : decode cX8_goes 60 = .ok (.ireturn, 1) := dk_172 (dk_at dksX8_goes_2 14 rfl rfl)
theorem q173 : (Jvm.Cond.initialized "OutwardDoors$Rule") ∈ lw_all := lw_g (lw_at lw_m1 24 rfl) rfl
theorem q713 : (Jvm.Cond.selects "OutwardDoors$Rule" ({ cls := "java/lang/Object", name := "getClass", desc := "()Ljava/lang/Class;" } : Jvm.MethodName) ({ cls := "java/lang/Object", name := "getClass", desc := "()Ljava/lang/Class;" } : Jvm.MethodName)) ∈ lw_all := lw_g (lw_at lw_m3 84 rfl) rfl
theorem q788 : (Jvm.Cond.instantiable "OutwardDoors$Rule" (1 : Nat)) ∈ lw_all := lw_g (lw_at lw_m3 159 rfl) rfl
theorem q790 : (Jvm.Cond.instanceMethod ({ cls := "OutwardDoors$Rule", name := "<init>", desc := "()V" } : Jvm.MethodName)) ∈ lw_all := lw_g (lw_at lw_m3 161 rfl) rfl
theorem q791 : (Jvm.Cond.code ({ cls := "OutwardDoors$Rule", name := "<init>", desc := "()V" } : Jvm.MethodName) prog_14_method_1_code (1 : Nat) (Option.none : Option Jvm.ClassFile.FieldType)) ∈ lw_all := lw_g (lw_at lw_m3 162 rfl) rfl
theorem q792 : (Jvm.Cond.methodLink "OutwardDoors$Rule" (1 : Nat) ({ cls := "java/lang/Object", name := "<init>", desc := "()V" } : Jvm.MethodName)) ∈ lw_all := lw_g (lw_at lw_m3 163 rfl) rfl
theorem q793 : (Jvm.Cond.classLink "OutwardDoors$Rule" (7 : Nat) "java/util/ArrayList") ∈ lw_all := lw_g (lw_at lw_m3 164 rfl) rfl
theorem q794 : (Jvm.Cond.methodLink "OutwardDoors$Rule" (9 : Nat) ({ cls := "java/util/ArrayList", name := "<init>", desc := "(I)V" } : Jvm.MethodName)) ∈ lw_all := lw_g (lw_at lw_m3 165 rfl) rfl
theorem q795 : (Jvm.Cond.fieldLink "OutwardDoors$Rule" (12 : Nat) "OutwardDoors$Rule" "all" "Ljava/util/ArrayList;") ∈ lw_all := lw_g (lw_at lw_m3 166 rfl) rfl
theorem q797 : (Jvm.Cond.laysFinal "OutwardDoors$Rule" "OutwardDoors$Rule" "all" "Ljava/util/ArrayList;") ∈ lw_all := lw_g (lw_at lw_m3 168 rfl) rfl
theorem q798 : (Jvm.Cond.soleField "OutwardDoors$Rule" "all") ∈ lw_all := lw_g (lw_at lw_m3 169 rfl) rfl
theorem q799 : (Jvm.Cond.superclass "OutwardDoors$Rule" "java/lang/Object") ∈ lw_all := lw_g (lw_at lw_m3 170 rfl) rfl
theorem q940 : (Jvm.Cond.fieldLinkNest "OutwardDoors$Rule" (32 : Nat) "OutwardDoors$Told" "sum" "LOutwardDoors$Value;" "OutwardDoors") ∈ lw_tbl := lw_at lw_m4 71 rfl
theorem q1070 : (Jvm.Cond.instanceMethod ({ cls := "OutwardDoors$Rule", name := "goes", desc := "([J)I" } : Jvm.MethodName)) ∈ lw_all := lw_g (lw_at lw_m4 201 rfl) rfl
theorem q1071 : (Jvm.Cond.selects "OutwardDoors$Rule" ({ cls := "OutwardDoors$Rule", name := "goes", desc := "([J)I" } : Jvm.MethodName) ({ cls := "OutwardDoors$Rule", name := "goes", desc := "([J)I" } : Jvm.MethodName)) ∈ lw_all := lw_g (lw_at lw_m4 202 rfl) rfl
theorem q1072 : (Jvm.Cond.code ({ cls := "OutwardDoors$Rule", name := "goes", desc := "([J)I" } : Jvm.MethodName) prog_14_method_2_code (3 : Nat) (Option.some Jvm.ClassFile.FieldType.int)) ∈ lw_all := lw_g (lw_at lw_m4 203 rfl) rfl
theorem q1073 : (Jvm.Cond.methodLink "OutwardDoors$Rule" (18 : Nat) ({ cls := "java/util/ArrayList", name := "size", desc := "()I" } : Jvm.MethodName)) ∈ lw_all := lw_g (lw_at lw_m4 204 rfl) rfl
theorem q1074 : (Jvm.Cond.methodLink "OutwardDoors$Rule" (22 : Nat) ({ cls := "java/util/ArrayList", name := "get", desc := "(I)Ljava/lang/Object;" } : Jvm.MethodName)) ∈ lw_all := lw_g (lw_at lw_m4 205 rfl) rfl
theorem q1075 : (Jvm.Cond.classLink "OutwardDoors$Rule" (26 : Nat) "OutwardDoors$Told") ∈ lw_all := lw_g (lw_at lw_m4 206 rfl) rfl
theorem q1076 : (Jvm.Cond.methodLink "OutwardDoors$Rule" (28 : Nat) ({ cls := "OutwardDoors$Told", name := "holds", desc := "([J)Z" } : Jvm.MethodName)) ∈ lw_all := lw_g (lw_at lw_m4 207 rfl) rfl
theorem q1107 : (Jvm.Cond.methodLink "OutwardDoors$Rule" (36 : Nat) ({ cls := "OutwardDoors$Value", name := "of", desc := "([J)J" } : Jvm.MethodName)) ∈ lw_all := lw_g (lw_at lw_m4 238 rfl) rfl
theorem q1108 : (Jvm.Cond.methodLink "OutwardDoors$Rule" (42 : Nat) ({ cls := "java/lang/Long", name := "signum", desc := "(J)I" } : Jvm.MethodName)) ∈ lw_all := lw_g (lw_at lw_m4 239 rfl) rfl
theorem q2014 : (Jvm.Cond.castable "OutwardDoors$Rule" "java/lang/Object") ∈ lw_tbl := lw_at lw_m8 185 rfl
theorem in_X8 : ∀ w ∈ wsX80, w ∈ lw_all := lw_in wsX80 [797] (by decide +kernel) (by decide +kernel)

/-! OutwardDoors$Value -/
set_option maxRecDepth 100000
def RX9 : String := "OutwardDoors$Value"
abbrev cX9_init : ByteArray := prog_17_method_1_code
def yX9_init : MethodName := ⟨RX9, "<init>", "()V"⟩
theorem dX9_init_0 : decode cX9_init 0 = .ok (.aload_n 0, 1) := by decide +kernel
theorem dX9_init_1 : decode cX9_init 1 = .ok (.invokespecial 1, 3) := by decide +kernel
theorem dX9_init_4 : decode cX9_init 4 = .ok (.return_, 1) := by decide +kernel
theorem q174 : (Jvm.Cond.initialized "OutwardDoors$Value") ∈ lw_all := lw_g (lw_at lw_m1 25 rfl) rfl
theorem q824 : (Jvm.Cond.instanceMethod ({ cls := "OutwardDoors$Value", name := "<init>", desc := "()V" } : Jvm.MethodName)) ∈ lw_all := lw_g (lw_at lw_m3 195 rfl) rfl
theorem q825 : (Jvm.Cond.code ({ cls := "OutwardDoors$Value", name := "<init>", desc := "()V" } : Jvm.MethodName) prog_17_method_1_code (1 : Nat) (Option.none : Option Jvm.ClassFile.FieldType)) ∈ lw_all := lw_g (lw_at lw_m3 196 rfl) rfl
theorem q826 : (Jvm.Cond.methodLink "OutwardDoors$Value" (1 : Nat) ({ cls := "java/lang/Object", name := "<init>", desc := "()V" } : Jvm.MethodName)) ∈ lw_all := lw_g (lw_at lw_m3 197 rfl) rfl
theorem q1090 : (Jvm.Cond.declares ({ cls := "OutwardDoors$Value", name := "of", desc := "([J)J" } : Jvm.MethodName)) ∈ lw_tbl := lw_at lw_m4 221 rfl
theorem q1091 : (Jvm.Cond.sameMethod "OutwardDoors$Value" "OutwardDoors$Value" "of" "([J)J") ∈ lw_all := lw_g (lw_at lw_m4 222 rfl) rfl

theorem q149 : (Jvm.Cond.initialized "OutwardDoorsLaw") ∈ lw_all := lw_g (lw_at lw_m1 0 rfl) rfl
set_option maxRecDepth 100000
theorem q185 : (Jvm.Cond.classLink "OutwardDoorsLaw" (7 : Nat) "OutwardDoors") ∈ lw_all := lw_g (lw_at lw_m1 36 rfl) rfl
theorem q187 : (Jvm.Cond.methodLink "OutwardDoorsLaw" (9 : Nat) ({ cls := "OutwardDoors", name := "<init>", desc := "()V" } : Jvm.MethodName)) ∈ lw_all := lw_g (lw_at lw_m1 38 rfl) rfl
theorem q470 : (Jvm.Cond.methodLink "OutwardDoorsLaw" (13 : Nat) ({ cls := "OutwardDoors", name := "feed", desc := "(IIIII)I" } : Jvm.MethodName)) ∈ lw_all := lw_g (lw_at lw_m2 81 rfl) rfl
theorem q478 : (Jvm.Cond.methodLink "OutwardDoorsLaw" (18 : Nat) ({ cls := "OutwardDoors", name := "end", desc := "(I)I" } : Jvm.MethodName)) ∈ lw_all := lw_g (lw_at lw_m2 89 rfl) rfl
theorem q482 : (Jvm.Cond.methodLink "OutwardDoorsLaw" (23 : Nat) ({ cls := "OutwardDoors", name := "castle", desc := "()I" } : Jvm.MethodName)) ∈ lw_all := lw_g (lw_at lw_m2 93 rfl) rfl
theorem q778 : (Jvm.Cond.methodLink "OutwardDoorsLaw" (28 : Nat) ({ cls := "OutwardDoors", name := "rule", desc := "()I" } : Jvm.MethodName)) ∈ lw_all := lw_g (lw_at lw_m3 149 rfl) rfl
theorem q947 : (Jvm.Cond.methodLink "OutwardDoorsLaw" (32 : Nat) ({ cls := "OutwardDoors", name := "force", desc := "(I)I" } : Jvm.MethodName)) ∈ lw_all := lw_g (lw_at lw_m4 78 rfl) rfl
theorem q953 : (Jvm.Cond.methodLink "OutwardDoorsLaw" (36 : Nat) ({ cls := "OutwardDoors", name := "person", desc := "(II)I" } : Jvm.MethodName)) ∈ lw_all := lw_g (lw_at lw_m4 84 rfl) rfl
theorem q1000 : (Jvm.Cond.methodLink "OutwardDoorsLaw" (41 : Nat) ({ cls := "OutwardDoors", name := "room", desc := "(II)I" } : Jvm.MethodName)) ∈ lw_all := lw_g (lw_at lw_m4 131 rfl) rfl
theorem q1019 : (Jvm.Cond.methodLink "OutwardDoorsLaw" (45 : Nat) ({ cls := "OutwardDoors", name := "door", desc := "(II)I" } : Jvm.MethodName)) ∈ lw_all := lw_g (lw_at lw_m4 150 rfl) rfl
theorem q1031 : (Jvm.Cond.methodLink "OutwardDoorsLaw" (62 : Nat) ({ cls := "OutwardDoors", name := "undo", desc := "()I" } : Jvm.MethodName)) ∈ lw_all := lw_g (lw_at lw_m4 162 rfl) rfl
theorem q1039 : (Jvm.Cond.methodLink "OutwardDoorsLaw" (49 : Nat) ({ cls := "OutwardDoors", name := "moment", desc := "()I" } : Jvm.MethodName)) ∈ lw_all := lw_g (lw_at lw_m4 170 rfl) rfl
theorem q1131 : (Jvm.Cond.methodLink "OutwardDoorsLaw" (53 : Nat) ({ cls := "OutwardDoors", name := "aim", desc := "(II)I" } : Jvm.MethodName)) ∈ lw_all := lw_g (lw_at lw_m5 22 rfl) rfl
theorem q1135 : (Jvm.Cond.methodLink "OutwardDoorsLaw" (57 : Nat) ({ cls := "OutwardDoors", name := "send", desc := "(III)Z" } : Jvm.MethodName)) ∈ lw_all := lw_g (lw_at lw_m5 26 rfl) rfl
theorem q1143 : (Jvm.Cond.methodLink "OutwardDoorsLaw" (66 : Nat) ({ cls := "OutwardDoors", name := "ahead", desc := "(II)I" } : Jvm.MethodName)) ∈ lw_all := lw_g (lw_at lw_m5 34 rfl) rfl
theorem q1152 : (Jvm.Cond.methodLink "OutwardDoorsLaw" (70 : Nat) ({ cls := "OutwardDoors", name := "comes", desc := "(I)I" } : Jvm.MethodName)) ∈ lw_all := lw_g (lw_at lw_m5 43 rfl) rfl
theorem q1156 : (Jvm.Cond.methodLink "OutwardDoorsLaw" (74 : Nat) ({ cls := "OutwardDoors", name := "fewest", desc := "(I)I" } : Jvm.MethodName)) ∈ lw_all := lw_g (lw_at lw_m5 47 rfl) rfl
theorem q1197 : (Jvm.Cond.methodLink "OutwardDoorsLaw" (78 : Nat) ({ cls := "OutwardDoors", name := "passing", desc := "(III)I" } : Jvm.MethodName)) ∈ lw_all := lw_g (lw_at lw_m5 88 rfl) rfl
theorem q1202 : (Jvm.Cond.methodLink "OutwardDoorsLaw" (83 : Nat) ({ cls := "OutwardDoors", name := "caught", desc := "(I)I" } : Jvm.MethodName)) ∈ lw_all := lw_g (lw_at lw_m5 93 rfl) rfl
theorem q1206 : (Jvm.Cond.methodLink "OutwardDoorsLaw" (87 : Nat) ({ cls := "OutwardDoors", name := "page", desc := "(II)I" } : Jvm.MethodName)) ∈ lw_all := lw_g (lw_at lw_m5 97 rfl) rfl
theorem q1210 : (Jvm.Cond.methodLink "OutwardDoorsLaw" (91 : Nat) ({ cls := "OutwardDoors", name := "price", desc := "(I)I" } : Jvm.MethodName)) ∈ lw_all := lw_g (lw_at lw_m5 101 rfl) rfl
theorem q1223 : (Jvm.Cond.methodLink "OutwardDoorsLaw" (95 : Nat) ({ cls := "OutwardDoors", name := "turned", desc := "(II)I" } : Jvm.MethodName)) ∈ lw_all := lw_g (lw_at lw_m5 114 rfl) rfl
theorem q1227 : (Jvm.Cond.methodLink "OutwardDoorsLaw" (99 : Nat) ({ cls := "OutwardDoors", name := "swap", desc := "(I)I" } : Jvm.MethodName)) ∈ lw_all := lw_g (lw_at lw_m5 118 rfl) rfl
theorem q1235 : (Jvm.Cond.methodLink "OutwardDoorsLaw" (103 : Nat) ({ cls := "OutwardDoors", name := "note", desc := "(III)I" } : Jvm.MethodName)) ∈ lw_all := lw_g (lw_at lw_m5 126 rfl) rfl
theorem q1240 : (Jvm.Cond.methodLink "OutwardDoorsLaw" (107 : Nat) ({ cls := "OutwardDoors", name := "ruled", desc := "(I)I" } : Jvm.MethodName)) ∈ lw_all := lw_g (lw_at lw_m5 131 rfl) rfl
theorem q1252 : (Jvm.Cond.methodLink "OutwardDoorsLaw" (111 : Nat) ({ cls := "OutwardDoors", name := "look", desc := "(II)I" } : Jvm.MethodName)) ∈ lw_all := lw_g (lw_at lw_m5 143 rfl) rfl
theorem q1265 : (Jvm.Cond.methodLink "OutwardDoorsLaw" (115 : Nat) ({ cls := "OutwardDoors", name := "seed", desc := "(I)I" } : Jvm.MethodName)) ∈ lw_all := lw_g (lw_at lw_m5 156 rfl) rfl
theorem q1269 : (Jvm.Cond.methodLink "OutwardDoorsLaw" (119 : Nat) ({ cls := "OutwardDoors", name := "days", desc := "(III)I" } : Jvm.MethodName)) ∈ lw_all := lw_g (lw_at lw_m5 160 rfl) rfl
theorem q1294 : (Jvm.Cond.methodLink "OutwardDoorsLaw" (123 : Nat) ({ cls := "OutwardDoors", name := "count", desc := "(I)I" } : Jvm.MethodName)) ∈ lw_all := lw_g (lw_at lw_m5 185 rfl) rfl
theorem q1298 : (Jvm.Cond.methodLink "OutwardDoorsLaw" (127 : Nat) ({ cls := "OutwardDoors", name := "image", desc := "(I)I" } : Jvm.MethodName)) ∈ lw_all := lw_g (lw_at lw_m5 189 rfl) rfl
theorem q1343 : (Jvm.Cond.methodLink "OutwardDoorsLaw" (131 : Nat) ({ cls := "OutwardDoors", name := "back", desc := "(I)I" } : Jvm.MethodName)) ∈ lw_all := lw_g (lw_at lw_m5 234 rfl) rfl
theorem q1351 : (Jvm.Cond.classLink "OutwardDoorsLaw" (10 : Nat) "OutwardDoorsModel") ∈ lw_all := lw_g (lw_at lw_m6 2 rfl) rfl
theorem q1353 : (Jvm.Cond.methodLink "OutwardDoorsLaw" (12 : Nat) ({ cls := "OutwardDoorsModel", name := "<init>", desc := "()V" } : Jvm.MethodName)) ∈ lw_all := lw_g (lw_at lw_m6 4 rfl) rfl
theorem q1491 : (Jvm.Cond.methodLink "OutwardDoorsLaw" (17 : Nat) ({ cls := "OutwardDoorsModel", name := "feed", desc := "(IIIII)I" } : Jvm.MethodName)) ∈ lw_all := lw_g (lw_at lw_m6 142 rfl) rfl
theorem q1499 : (Jvm.Cond.methodLink "OutwardDoorsLaw" (22 : Nat) ({ cls := "OutwardDoorsModel", name := "end", desc := "(I)I" } : Jvm.MethodName)) ∈ lw_all := lw_g (lw_at lw_m6 150 rfl) rfl
theorem q1503 : (Jvm.Cond.methodLink "OutwardDoorsLaw" (31 : Nat) ({ cls := "OutwardDoorsModel", name := "rule", desc := "()I" } : Jvm.MethodName)) ∈ lw_all := lw_g (lw_at lw_m6 154 rfl) rfl
theorem q1662 : (Jvm.Cond.methodLink "OutwardDoorsLaw" (27 : Nat) ({ cls := "OutwardDoorsModel", name := "castle", desc := "()I" } : Jvm.MethodName)) ∈ lw_all := lw_g (lw_at lw_m7 73 rfl) rfl
theorem q1674 : (Jvm.Cond.methodLink "OutwardDoorsLaw" (35 : Nat) ({ cls := "OutwardDoorsModel", name := "force", desc := "(I)I" } : Jvm.MethodName)) ∈ lw_all := lw_g (lw_at lw_m7 85 rfl) rfl
theorem q1682 : (Jvm.Cond.methodLink "OutwardDoorsLaw" (40 : Nat) ({ cls := "OutwardDoorsModel", name := "person", desc := "(II)I" } : Jvm.MethodName)) ∈ lw_all := lw_g (lw_at lw_m7 93 rfl) rfl
theorem q1723 : (Jvm.Cond.methodLink "OutwardDoorsLaw" (44 : Nat) ({ cls := "OutwardDoorsModel", name := "room", desc := "(II)I" } : Jvm.MethodName)) ∈ lw_all := lw_g (lw_at lw_m7 134 rfl) rfl
theorem q1743 : (Jvm.Cond.methodLink "OutwardDoorsLaw" (48 : Nat) ({ cls := "OutwardDoorsModel", name := "door", desc := "(II)I" } : Jvm.MethodName)) ∈ lw_all := lw_g (lw_at lw_m7 154 rfl) rfl
theorem q1752 : (Jvm.Cond.methodLink "OutwardDoorsLaw" (65 : Nat) ({ cls := "OutwardDoorsModel", name := "undo", desc := "()I" } : Jvm.MethodName)) ∈ lw_all := lw_g (lw_at lw_m7 163 rfl) rfl
theorem q1756 : (Jvm.Cond.methodLink "OutwardDoorsLaw" (52 : Nat) ({ cls := "OutwardDoorsModel", name := "moment", desc := "()I" } : Jvm.MethodName)) ∈ lw_all := lw_g (lw_at lw_m7 167 rfl) rfl
theorem q1826 : (Jvm.Cond.methodLink "OutwardDoorsLaw" (56 : Nat) ({ cls := "OutwardDoorsModel", name := "aim", desc := "(II)I" } : Jvm.MethodName)) ∈ lw_all := lw_g (lw_at lw_m7 237 rfl) rfl
theorem q1830 : (Jvm.Cond.methodLink "OutwardDoorsLaw" (61 : Nat) ({ cls := "OutwardDoorsModel", name := "send", desc := "(III)Z" } : Jvm.MethodName)) ∈ lw_all := lw_g (lw_at lw_m8 1 rfl) rfl
theorem q1834 : (Jvm.Cond.methodLink "OutwardDoorsLaw" (69 : Nat) ({ cls := "OutwardDoorsModel", name := "ahead", desc := "(II)I" } : Jvm.MethodName)) ∈ lw_all := lw_g (lw_at lw_m8 5 rfl) rfl
theorem q1847 : (Jvm.Cond.methodLink "OutwardDoorsLaw" (73 : Nat) ({ cls := "OutwardDoorsModel", name := "comes", desc := "(I)I" } : Jvm.MethodName)) ∈ lw_all := lw_g (lw_at lw_m8 18 rfl) rfl
theorem q1851 : (Jvm.Cond.methodLink "OutwardDoorsLaw" (77 : Nat) ({ cls := "OutwardDoorsModel", name := "fewest", desc := "(I)I" } : Jvm.MethodName)) ∈ lw_all := lw_g (lw_at lw_m8 22 rfl) rfl
theorem q1899 : (Jvm.Cond.methodLink "OutwardDoorsLaw" (82 : Nat) ({ cls := "OutwardDoorsModel", name := "passing", desc := "(III)I" } : Jvm.MethodName)) ∈ lw_all := lw_g (lw_at lw_m8 70 rfl) rfl
theorem q1907 : (Jvm.Cond.methodLink "OutwardDoorsLaw" (86 : Nat) ({ cls := "OutwardDoorsModel", name := "caught", desc := "(I)I" } : Jvm.MethodName)) ∈ lw_all := lw_g (lw_at lw_m8 78 rfl) rfl
theorem q1911 : (Jvm.Cond.methodLink "OutwardDoorsLaw" (90 : Nat) ({ cls := "OutwardDoorsModel", name := "page", desc := "(II)I" } : Jvm.MethodName)) ∈ lw_all := lw_g (lw_at lw_m8 82 rfl) rfl
theorem q1915 : (Jvm.Cond.methodLink "OutwardDoorsLaw" (94 : Nat) ({ cls := "OutwardDoorsModel", name := "price", desc := "(I)I" } : Jvm.MethodName)) ∈ lw_all := lw_g (lw_at lw_m8 86 rfl) rfl
theorem q1923 : (Jvm.Cond.methodLink "OutwardDoorsLaw" (98 : Nat) ({ cls := "OutwardDoorsModel", name := "turned", desc := "(II)I" } : Jvm.MethodName)) ∈ lw_all := lw_g (lw_at lw_m8 94 rfl) rfl
theorem q1927 : (Jvm.Cond.methodLink "OutwardDoorsLaw" (102 : Nat) ({ cls := "OutwardDoorsModel", name := "swap", desc := "(I)I" } : Jvm.MethodName)) ∈ lw_all := lw_g (lw_at lw_m8 98 rfl) rfl
theorem q1935 : (Jvm.Cond.methodLink "OutwardDoorsLaw" (106 : Nat) ({ cls := "OutwardDoorsModel", name := "note", desc := "(III)I" } : Jvm.MethodName)) ∈ lw_all := lw_g (lw_at lw_m8 106 rfl) rfl
theorem q1940 : (Jvm.Cond.methodLink "OutwardDoorsLaw" (110 : Nat) ({ cls := "OutwardDoorsModel", name := "ruled", desc := "(I)I" } : Jvm.MethodName)) ∈ lw_all := lw_g (lw_at lw_m8 111 rfl) rfl
theorem q1956 : (Jvm.Cond.methodLink "OutwardDoorsLaw" (114 : Nat) ({ cls := "OutwardDoorsModel", name := "look", desc := "(II)I" } : Jvm.MethodName)) ∈ lw_all := lw_g (lw_at lw_m8 127 rfl) rfl
theorem q1964 : (Jvm.Cond.methodLink "OutwardDoorsLaw" (118 : Nat) ({ cls := "OutwardDoorsModel", name := "seed", desc := "(I)I" } : Jvm.MethodName)) ∈ lw_all := lw_g (lw_at lw_m8 135 rfl) rfl
theorem q1968 : (Jvm.Cond.methodLink "OutwardDoorsLaw" (122 : Nat) ({ cls := "OutwardDoorsModel", name := "days", desc := "(III)I" } : Jvm.MethodName)) ∈ lw_all := lw_g (lw_at lw_m8 139 rfl) rfl
theorem q1989 : (Jvm.Cond.methodLink "OutwardDoorsLaw" (126 : Nat) ({ cls := "OutwardDoorsModel", name := "count", desc := "(I)I" } : Jvm.MethodName)) ∈ lw_all := lw_g (lw_at lw_m8 160 rfl) rfl
theorem q1993 : (Jvm.Cond.methodLink "OutwardDoorsLaw" (130 : Nat) ({ cls := "OutwardDoorsModel", name := "image", desc := "(I)I" } : Jvm.MethodName)) ∈ lw_all := lw_g (lw_at lw_m8 164 rfl) rfl
theorem q1997 : (Jvm.Cond.methodLink "OutwardDoorsLaw" (134 : Nat) ({ cls := "OutwardDoorsModel", name := "back", desc := "(I)I" } : Jvm.MethodName)) ∈ lw_all := lw_g (lw_at lw_m8 168 rfl) rfl

theorem q2030 : (Jvm.Cond.castable "[B" "java/lang/Object") ∈ lw_tbl := lw_at lw_m8 201 rfl
set_option maxRecDepth 100000

theorem q2027 : (Jvm.Cond.castable "[I" "java/lang/Object") ∈ lw_tbl := lw_at lw_m8 198 rfl
set_option maxRecDepth 100000

theorem q2031 : (Jvm.Cond.castable "[J" "java/lang/Object") ∈ lw_tbl := lw_at lw_m8 202 rfl
set_option maxRecDepth 100000

theorem q2029 : (Jvm.Cond.castable "[LOutwardDoors$Image;" "java/lang/Object") ∈ lw_tbl := lw_at lw_m8 200 rfl
set_option maxRecDepth 100000

theorem q2028 : (Jvm.Cond.castable "[LOutwardDoors$State;" "java/lang/Object") ∈ lw_tbl := lw_at lw_m8 199 rfl
set_option maxRecDepth 100000

theorem q2023 : (Jvm.Cond.sameMethod "[Ljava/lang/Object;" "java/lang/Object" "getClass" "()Ljava/lang/Class;") ∈ lw_all := lw_g (lw_at lw_m8 194 rfl) rfl
set_option maxRecDepth 100000
theorem q2024 : (Jvm.Cond.selects "[Ljava/lang/Object;" ({ cls := "java/lang/Object", name := "getClass", desc := "()Ljava/lang/Class;" } : Jvm.MethodName) ({ cls := "java/lang/Object", name := "getClass", desc := "()Ljava/lang/Class;" } : Jvm.MethodName)) ∈ lw_all := lw_g (lw_at lw_m8 195 rfl) rfl
theorem q2026 : (Jvm.Cond.castable "[Ljava/lang/Object;" "java/lang/Object") ∈ lw_tbl := lw_at lw_m8 197 rfl

theorem q2033 : (Jvm.Cond.castable "[Ljava/lang/String;" "java/lang/Object") ∈ lw_tbl := lw_at lw_m8 204 rfl
set_option maxRecDepth 100000

theorem q2032 : (Jvm.Cond.castable "[Z" "java/lang/Object") ∈ lw_tbl := lw_at lw_m8 203 rfl
set_option maxRecDepth 100000

theorem q171 : (Jvm.Cond.initialized "java/lang/System") ∈ lw_all := lw_g (lw_at lw_m1 22 rfl) rfl
set_option maxRecDepth 100000
theorem q729 : (Jvm.Cond.static ({ cls := "java/lang/System", name := "arraycopy", desc := "(Ljava/lang/Object;ILjava/lang/Object;II)V" } : Jvm.MethodName)) ∈ lw_all := lw_g (lw_at lw_m3 100 rfl) rfl
theorem q730 : (Jvm.Cond.native ({ cls := "java/lang/System", name := "arraycopy", desc := "(Ljava/lang/Object;ILjava/lang/Object;II)V" } : Jvm.MethodName)) ∈ lw_all := lw_g (lw_at lw_m3 101 rfl) rfl

theorem q212 : (Jvm.Cond.arrayOver (Jvm.ClassFile.FieldType.object "java/lang/Object")) ∈ lw_tbl := lw_at lw_m1 63 rfl
set_option maxRecDepth 100000
theorem q256 : (Jvm.Cond.arrayClass Jvm.ClassFile.FieldType.int) ∈ lw_all := lw_g (lw_at lw_m1 107 rfl) rfl
theorem q354 : (Jvm.Cond.arrayOver (Jvm.ClassFile.FieldType.object "OutwardDoors$State")) ∈ lw_tbl := lw_at lw_m1 205 rfl
theorem q357 : (Jvm.Cond.arrayOver (Jvm.ClassFile.FieldType.object "OutwardDoors$Image")) ∈ lw_tbl := lw_at lw_m1 208 rfl
theorem q467 : (Jvm.Cond.arrayClass Jvm.ClassFile.FieldType.byte) ∈ lw_all := lw_g (lw_at lw_m2 78 rfl) rfl
theorem q468 : (Jvm.Cond.arrayClass Jvm.ClassFile.FieldType.long) ∈ lw_all := lw_g (lw_at lw_m2 79 rfl) rfl
theorem q469 : (Jvm.Cond.arrayClass Jvm.ClassFile.FieldType.boolean) ∈ lw_all := lw_g (lw_at lw_m2 80 rfl) rfl
theorem q2048 : (Jvm.Cond.arrayOver (Jvm.ClassFile.FieldType.object "java/lang/String")) ∈ lw_tbl := lw_at lw_m8 219 rfl
