/-! OutwardDoors$Parser -/
set_option maxRecDepth 100000
def RX5 : String := "OutwardDoors$Parser"
def TX5 : u_T := fun k => match k with
  | 0 => ("OutwardDoors$Parser", "names", "[Ljava/lang/String;", true)
  | 1 => ("OutwardDoors$Parser", "at", "I", false)
  | 2 => ("OutwardDoors$Parser", "deep", "I", false)
  | 3 => ("OutwardDoors$Parser", "counted", "I", false)
  | 4 => ("OutwardDoors$Parser", "clauses", "I", false)
  | 5 => ("OutwardDoors$Parser", "most", "I", true)
  | _ => ("OutwardDoors$Parser", "this$0", "LOutwardDoors;", true)
def tyX5 : Nat → FieldType := fun k => match k with
  | 0 => .array (.object "java/lang/String")
  | 1 => .int
  | 2 => .int
  | 3 => .int
  | 4 => .int
  | 5 => .int
  | _ => .object "OutwardDoors"
abbrev wsX50 : List Cond := u_ws RX5 TX5 7
theorem nmX5 : ∀ a, a < 7 → ∀ b, b < 7 → a ≠ b → (TX5 a).2.1 ≠ (TX5 b).2.1 := by decide +kernel
theorem tyX5_ok : ∀ k, k < 7 → parseFieldDescriptor (TX5 k).2.2.1 = some (tyX5 k) := by decide +kernel
abbrev cX5_init : ByteArray := prog_11_method_1_code
def yX5_init : MethodName := ⟨RX5, "<init>", "(LOutwardDoors;[Ljava/lang/String;I)V"⟩
def dkwX5_init_0 : List UInt8 := [42, 43, 181, 0, 3, 42, 183, 0, 9, 42, 44, 181, 0, 15, 42, 29, 181, 0, 19, 177]
abbrev dktX5_init_0 : List UInt8 := dkwX5_init_0 ++ []
theorem dksX5_init_0 : cX5_init.data.toList.drop 0 = dktX5_init_0 := by decide +kernel
theorem dX5_init_0 : decode cX5_init 0 = .ok (.aload_n 0, 1) := dk_42 (dk_at dksX5_init_0 0 rfl rfl)
theorem dX5_init_1 : decode cX5_init 1 = .ok (.aload_n 1, 1) := dk_43 (dk_at dksX5_init_0 1 rfl rfl)
theorem dX5_init_2 : decode cX5_init 2 = .ok (.putfield 3, 3) := dk_181 0 3 (dk_at dksX5_init_0 2 rfl rfl)
theorem dX5_init_5 : decode cX5_init 5 = .ok (.aload_n 0, 1) := dk_42 (dk_at dksX5_init_0 5 rfl rfl)
theorem dX5_init_6 : decode cX5_init 6 = .ok (.invokespecial 9, 3) := dk_183 0 9 (dk_at dksX5_init_0 6 rfl rfl)
theorem dX5_init_9 : decode cX5_init 9 = .ok (.aload_n 0, 1) := dk_42 (dk_at dksX5_init_0 9 rfl rfl)
theorem dX5_init_10 : decode cX5_init 10 = .ok (.aload_n 2, 1) := dk_44 (dk_at dksX5_init_0 10 rfl rfl)
theorem dX5_init_11 : decode cX5_init 11 = .ok (.putfield 15, 3) := dk_181 0 15 (dk_at dksX5_init_0 11 rfl rfl)
theorem dX5_init_14 : decode cX5_init 14 = .ok (.aload_n 0, 1) := dk_42 (dk_at dksX5_init_0 14 rfl rfl)
theorem dX5_init_15 : decode cX5_init 15 = .ok (.iload_n 3, 1) := dk_29 (dk_at dksX5_init_0 15 rfl rfl)
theorem dX5_init_16 : decode cX5_init 16 = .ok (.putfield 19, 3) := dk_181 0 19 (dk_at dksX5_init_0 16 rfl rfl)
theorem dX5_init_19 : decode cX5_init 19 = .ok (.return_, 1) := dk_177 (dk_at dksX5_init_0 19 rfl rfl)
abbrev cX5_castle : ByteArray := prog_11_method_24_code
def yX5_castle : MethodName := ⟨RX5, "castle", "()LOutwardDoors$Castle;"⟩
def dkwX5_castle_1 : List UInt8 := [182, 0, 240, 167, 255, 244, 43, 176]
abbrev dktX5_castle_1 : List UInt8 := dkwX5_castle_1 ++ []
def dkwX5_castle_0 : List UInt8 := [187, 0, 151, 89, 183, 0, 239, 76, 42, 43, 182, 0, 240, 42, 182, 0, 243, 153, 0, 11, 42, 43]
abbrev dktX5_castle_0 : List UInt8 := dkwX5_castle_0 ++ dktX5_castle_1
theorem dksX5_castle_0 : cX5_castle.data.toList.drop 0 = dktX5_castle_0 := by decide +kernel
theorem dksX5_castle_1 : cX5_castle.data.toList.drop 22 = dktX5_castle_1 := dk_seg dksX5_castle_0 22 rfl rfl
theorem dX5_castle_0 : decode cX5_castle 0 = .ok (.new 151, 3) := dk_187 0 151 (dk_at dksX5_castle_0 0 rfl rfl)
theorem dX5_castle_3 : decode cX5_castle 3 = .ok (.dup, 1) := dk_89 (dk_at dksX5_castle_0 3 rfl rfl)
theorem dX5_castle_4 : decode cX5_castle 4 = .ok (.invokespecial 239, 3) := dk_183 0 239 (dk_at dksX5_castle_0 4 rfl rfl)
theorem dX5_castle_7 : decode cX5_castle 7 = .ok (.astore_n 1, 1) := dk_76 (dk_at dksX5_castle_0 7 rfl rfl)
theorem dX5_castle_8 : decode cX5_castle 8 = .ok (.aload_n 0, 1) := dk_42 (dk_at dksX5_castle_0 8 rfl rfl)
theorem dX5_castle_9 : decode cX5_castle 9 = .ok (.aload_n 1, 1) := dk_43 (dk_at dksX5_castle_0 9 rfl rfl)
theorem dX5_castle_10 : decode cX5_castle 10 = .ok (.invokevirtual 240, 3) := dk_182 0 240 (dk_at dksX5_castle_0 10 rfl rfl)
theorem dX5_castle_13 : decode cX5_castle 13 = .ok (.aload_n 0, 1) := dk_42 (dk_at dksX5_castle_0 13 rfl rfl)
theorem dX5_castle_14 : decode cX5_castle 14 = .ok (.invokevirtual 243, 3) := dk_182 0 243 (dk_at dksX5_castle_0 14 rfl rfl)
theorem dX5_castle_17 : decode cX5_castle 17 = .ok (.ifCond .eq 11, 3) := dk_153 0 11 (dk_at dksX5_castle_0 17 rfl rfl)
theorem dX5_castle_20 : decode cX5_castle 20 = .ok (.aload_n 0, 1) := dk_42 (dk_at dksX5_castle_0 20 rfl rfl)
theorem dX5_castle_21 : decode cX5_castle 21 = .ok (.aload_n 1, 1) := dk_43 (dk_at dksX5_castle_0 21 rfl rfl)
theorem dX5_castle_22 : decode cX5_castle 22 = .ok (.invokevirtual 240, 3) := dk_182 0 240 (dk_at dksX5_castle_1 0 rfl rfl)
theorem dX5_castle_25 : decode cX5_castle 25 = .ok (.goto (-12), 3) := dk_167 255 244 (dk_at dksX5_castle_1 3 rfl rfl)
theorem dX5_castle_28 : decode cX5_castle 28 = .ok (.aload_n 1, 1) := dk_43 (dk_at dksX5_castle_1 6 rfl rfl)
theorem dX5_castle_29 : decode cX5_castle 29 = .ok (.areturn, 1) := dk_176 (dk_at dksX5_castle_1 7 rfl rfl)
abbrev cX5_clause : ByteArray := prog_11_method_21_code
def yX5_clause : MethodName := ⟨RX5, "clause", "(LOutwardDoors$Castle;)V"⟩
def dkwX5_clause_9 : List UInt8 := [180, 0, 3, 3, 42, 180, 0, 23, 182, 0, 69, 191, 177]
abbrev dktX5_clause_9 : List UInt8 := dkwX5_clause_9 ++ []
def dkwX5_clause_8 : List UInt8 := [162, 0, 7, 4, 167, 0, 4, 3, 182, 0, 197, 153, 0, 11, 42, 43, 182, 0, 223, 167, 0, 16, 42]
abbrev dktX5_clause_8 : List UInt8 := dkwX5_clause_8 ++ dktX5_clause_9
def dkwX5_clause_7 : List UInt8 := [153, 0, 11, 42, 43, 182, 0, 215, 167, 0, 50, 42, 18, 218, 28, 153, 0, 15, 43, 182, 0, 220, 7]
abbrev dktX5_clause_7 : List UInt8 := dkwX5_clause_7 ++ dktX5_clause_8
def dkwX5_clause_6 : List UInt8 := [18, 213, 28, 153, 0, 15, 43, 180, 0, 181, 2, 160, 0, 7, 4, 167, 0, 4, 3, 182, 0, 197]
abbrev dktX5_clause_6 : List UInt8 := dkwX5_clause_6 ++ dktX5_clause_7
def dkwX5_clause_5 : List UInt8 := [167, 0, 103, 42, 18, 211, 29, 182, 0, 197, 153, 0, 12, 42, 43, 4, 182, 0, 208, 167, 0, 84, 42]
abbrev dktX5_clause_5 : List UInt8 := dkwX5_clause_5 ++ dktX5_clause_6
def dkwX5_clause_4 : List UInt8 := [182, 0, 82, 79, 167, 0, 122, 42, 18, 206, 29, 182, 0, 197, 153, 0, 12, 42, 43, 3, 182, 0, 208]
abbrev dktX5_clause_4 : List UInt8 := dkwX5_clause_4 ++ dktX5_clause_5
def dkwX5_clause_3 : List UInt8 := [182, 0, 197, 153, 0, 27, 42, 43, 182, 0, 155, 54, 4, 43, 180, 0, 203, 21, 4, 42, 3, 16, 9]
abbrev dktX5_clause_3 : List UInt8 := dkwX5_clause_3 ++ dktX5_clause_4
def dkwX5_clause_2 : List UInt8 := [182, 0, 197, 153, 0, 17, 43, 42, 5, 16, 8, 182, 0, 82, 181, 0, 150, 167, 0, 156, 42, 18, 201, 28]
abbrev dktX5_clause_2 : List UInt8 := dkwX5_clause_2 ++ dktX5_clause_3
def dkwX5_clause_1 : List UInt8 := [16, 14, 162, 0, 7, 4, 167, 0, 4, 3, 62, 42, 18, 195, 28, 154, 0, 7, 4, 167, 0, 4, 3]
abbrev dktX5_clause_1 : List UInt8 := dkwX5_clause_1 ++ dktX5_clause_2
def dkwX5_clause_0 : List UInt8 := [43, 180, 0, 150, 158, 0, 7, 4, 167, 0, 4, 3, 61, 28, 153, 0, 19, 43, 180, 0, 163, 182, 0, 192]
abbrev dktX5_clause_0 : List UInt8 := dkwX5_clause_0 ++ dktX5_clause_1
theorem dksX5_clause_0 : cX5_clause.data.toList.drop 0 = dktX5_clause_0 := by decide +kernel
theorem dksX5_clause_1 : cX5_clause.data.toList.drop 24 = dktX5_clause_1 := dk_seg dksX5_clause_0 24 rfl rfl
theorem dksX5_clause_2 : cX5_clause.data.toList.drop 47 = dktX5_clause_2 := dk_seg dksX5_clause_1 23 rfl rfl
theorem dksX5_clause_3 : cX5_clause.data.toList.drop 71 = dktX5_clause_3 := dk_seg dksX5_clause_2 24 rfl rfl
theorem dksX5_clause_4 : cX5_clause.data.toList.drop 94 = dktX5_clause_4 := dk_seg dksX5_clause_3 23 rfl rfl
theorem dksX5_clause_5 : cX5_clause.data.toList.drop 117 = dktX5_clause_5 := dk_seg dksX5_clause_4 23 rfl rfl
theorem dksX5_clause_6 : cX5_clause.data.toList.drop 140 = dktX5_clause_6 := dk_seg dksX5_clause_5 23 rfl rfl
theorem dksX5_clause_7 : cX5_clause.data.toList.drop 162 = dktX5_clause_7 := dk_seg dksX5_clause_6 22 rfl rfl
theorem dksX5_clause_8 : cX5_clause.data.toList.drop 185 = dktX5_clause_8 := dk_seg dksX5_clause_7 23 rfl rfl
theorem dksX5_clause_9 : cX5_clause.data.toList.drop 208 = dktX5_clause_9 := dk_seg dksX5_clause_8 23 rfl rfl
theorem dX5_clause_0 : decode cX5_clause 0 = .ok (.aload_n 1, 1) := dk_43 (dk_at dksX5_clause_0 0 rfl rfl)
theorem dX5_clause_1 : decode cX5_clause 1 = .ok (.getfield 150, 3) := dk_180 0 150 (dk_at dksX5_clause_0 1 rfl rfl)
theorem dX5_clause_4 : decode cX5_clause 4 = .ok (.ifCond .le 7, 3) := dk_158 0 7 (dk_at dksX5_clause_0 4 rfl rfl)
theorem dX5_clause_7 : decode cX5_clause 7 = .ok (.iconst 1, 1) := dk_4 (dk_at dksX5_clause_0 7 rfl rfl)
theorem dX5_clause_8 : decode cX5_clause 8 = .ok (.goto 4, 3) := dk_167 0 4 (dk_at dksX5_clause_0 8 rfl rfl)
theorem dX5_clause_11 : decode cX5_clause 11 = .ok (.iconst 0, 1) := dk_3 (dk_at dksX5_clause_0 11 rfl rfl)
theorem dX5_clause_12 : decode cX5_clause 12 = .ok (.istore_n 2, 1) := dk_61 (dk_at dksX5_clause_0 12 rfl rfl)
theorem dX5_clause_13 : decode cX5_clause 13 = .ok (.iload_n 2, 1) := dk_28 (dk_at dksX5_clause_0 13 rfl rfl)
theorem dX5_clause_14 : decode cX5_clause 14 = .ok (.ifCond .eq 19, 3) := dk_153 0 19 (dk_at dksX5_clause_0 14 rfl rfl)
theorem dX5_clause_17 : decode cX5_clause 17 = .ok (.aload_n 1, 1) := dk_43 (dk_at dksX5_clause_0 17 rfl rfl)
theorem dX5_clause_18 : decode cX5_clause 18 = .ok (.getfield 163, 3) := dk_180 0 163 (dk_at dksX5_clause_0 18 rfl rfl)
theorem dX5_clause_21 : decode cX5_clause 21 = .ok (.invokevirtual 192, 3) := dk_182 0 192 (dk_at dksX5_clause_0 21 rfl rfl)
theorem dX5_clause_24 : decode cX5_clause 24 = .ok (.bipush 14, 2) := dk_16 14 (dk_at dksX5_clause_1 0 rfl rfl)
theorem dX5_clause_26 : decode cX5_clause 26 = .ok (.if_icmp .ge 7, 3) := dk_162 0 7 (dk_at dksX5_clause_1 2 rfl rfl)
theorem dX5_clause_29 : decode cX5_clause 29 = .ok (.iconst 1, 1) := dk_4 (dk_at dksX5_clause_1 5 rfl rfl)
theorem dX5_clause_30 : decode cX5_clause 30 = .ok (.goto 4, 3) := dk_167 0 4 (dk_at dksX5_clause_1 6 rfl rfl)
theorem dX5_clause_33 : decode cX5_clause 33 = .ok (.iconst 0, 1) := dk_3 (dk_at dksX5_clause_1 9 rfl rfl)
theorem dX5_clause_34 : decode cX5_clause 34 = .ok (.istore_n 3, 1) := dk_62 (dk_at dksX5_clause_1 10 rfl rfl)
theorem dX5_clause_35 : decode cX5_clause 35 = .ok (.aload_n 0, 1) := dk_42 (dk_at dksX5_clause_1 11 rfl rfl)
theorem dX5_clause_36 : decode cX5_clause 36 = .ok (.ldc 195, 2) := dk_18 195 (dk_at dksX5_clause_1 12 rfl rfl)
theorem dX5_clause_38 : decode cX5_clause 38 = .ok (.iload_n 2, 1) := dk_28 (dk_at dksX5_clause_1 14 rfl rfl)
theorem dX5_clause_39 : decode cX5_clause 39 = .ok (.ifCond .ne 7, 3) := dk_154 0 7 (dk_at dksX5_clause_1 15 rfl rfl)
theorem dX5_clause_42 : decode cX5_clause 42 = .ok (.iconst 1, 1) := dk_4 (dk_at dksX5_clause_1 18 rfl rfl)
theorem dX5_clause_43 : decode cX5_clause 43 = .ok (.goto 4, 3) := dk_167 0 4 (dk_at dksX5_clause_1 19 rfl rfl)
theorem dX5_clause_46 : decode cX5_clause 46 = .ok (.iconst 0, 1) := dk_3 (dk_at dksX5_clause_1 22 rfl rfl)
theorem dX5_clause_47 : decode cX5_clause 47 = .ok (.invokevirtual 197, 3) := dk_182 0 197 (dk_at dksX5_clause_2 0 rfl rfl)
theorem dX5_clause_50 : decode cX5_clause 50 = .ok (.ifCond .eq 17, 3) := dk_153 0 17 (dk_at dksX5_clause_2 3 rfl rfl)
theorem dX5_clause_53 : decode cX5_clause 53 = .ok (.aload_n 1, 1) := dk_43 (dk_at dksX5_clause_2 6 rfl rfl)
theorem dX5_clause_54 : decode cX5_clause 54 = .ok (.aload_n 0, 1) := dk_42 (dk_at dksX5_clause_2 7 rfl rfl)
theorem dX5_clause_55 : decode cX5_clause 55 = .ok (.iconst 2, 1) := dk_5 (dk_at dksX5_clause_2 8 rfl rfl)
theorem dX5_clause_56 : decode cX5_clause 56 = .ok (.bipush 8, 2) := dk_16 8 (dk_at dksX5_clause_2 9 rfl rfl)
theorem dX5_clause_58 : decode cX5_clause 58 = .ok (.invokevirtual 82, 3) := dk_182 0 82 (dk_at dksX5_clause_2 11 rfl rfl)
theorem dX5_clause_61 : decode cX5_clause 61 = .ok (.putfield 150, 3) := dk_181 0 150 (dk_at dksX5_clause_2 14 rfl rfl)
theorem dX5_clause_64 : decode cX5_clause 64 = .ok (.goto 156, 3) := dk_167 0 156 (dk_at dksX5_clause_2 17 rfl rfl)
theorem dX5_clause_67 : decode cX5_clause 67 = .ok (.aload_n 0, 1) := dk_42 (dk_at dksX5_clause_2 20 rfl rfl)
theorem dX5_clause_68 : decode cX5_clause 68 = .ok (.ldc 201, 2) := dk_18 201 (dk_at dksX5_clause_2 21 rfl rfl)
theorem dX5_clause_70 : decode cX5_clause 70 = .ok (.iload_n 2, 1) := dk_28 (dk_at dksX5_clause_2 23 rfl rfl)
theorem dX5_clause_71 : decode cX5_clause 71 = .ok (.invokevirtual 197, 3) := dk_182 0 197 (dk_at dksX5_clause_3 0 rfl rfl)
theorem dX5_clause_74 : decode cX5_clause 74 = .ok (.ifCond .eq 27, 3) := dk_153 0 27 (dk_at dksX5_clause_3 3 rfl rfl)
theorem dX5_clause_77 : decode cX5_clause 77 = .ok (.aload_n 0, 1) := dk_42 (dk_at dksX5_clause_3 6 rfl rfl)
theorem dX5_clause_78 : decode cX5_clause 78 = .ok (.aload_n 1, 1) := dk_43 (dk_at dksX5_clause_3 7 rfl rfl)
theorem dX5_clause_79 : decode cX5_clause 79 = .ok (.invokevirtual 155, 3) := dk_182 0 155 (dk_at dksX5_clause_3 8 rfl rfl)
theorem dX5_clause_82 : decode cX5_clause 82 = .ok (.istore 4, 2) := dk_54 4 (dk_at dksX5_clause_3 11 rfl rfl)
theorem dX5_clause_84 : decode cX5_clause 84 = .ok (.aload_n 1, 1) := dk_43 (dk_at dksX5_clause_3 13 rfl rfl)
theorem dX5_clause_85 : decode cX5_clause 85 = .ok (.getfield 203, 3) := dk_180 0 203 (dk_at dksX5_clause_3 14 rfl rfl)
theorem dX5_clause_88 : decode cX5_clause 88 = .ok (.iload 4, 2) := dk_21 4 (dk_at dksX5_clause_3 17 rfl rfl)
theorem dX5_clause_90 : decode cX5_clause 90 = .ok (.aload_n 0, 1) := dk_42 (dk_at dksX5_clause_3 19 rfl rfl)
theorem dX5_clause_91 : decode cX5_clause 91 = .ok (.iconst 0, 1) := dk_3 (dk_at dksX5_clause_3 20 rfl rfl)
theorem dX5_clause_92 : decode cX5_clause 92 = .ok (.bipush 9, 2) := dk_16 9 (dk_at dksX5_clause_3 21 rfl rfl)
theorem dX5_clause_94 : decode cX5_clause 94 = .ok (.invokevirtual 82, 3) := dk_182 0 82 (dk_at dksX5_clause_4 0 rfl rfl)
theorem dX5_clause_97 : decode cX5_clause 97 = .ok (.iastore, 1) := dk_79 (dk_at dksX5_clause_4 3 rfl rfl)
theorem dX5_clause_98 : decode cX5_clause 98 = .ok (.goto 122, 3) := dk_167 0 122 (dk_at dksX5_clause_4 4 rfl rfl)
theorem dX5_clause_101 : decode cX5_clause 101 = .ok (.aload_n 0, 1) := dk_42 (dk_at dksX5_clause_4 7 rfl rfl)
theorem dX5_clause_102 : decode cX5_clause 102 = .ok (.ldc 206, 2) := dk_18 206 (dk_at dksX5_clause_4 8 rfl rfl)
theorem dX5_clause_104 : decode cX5_clause 104 = .ok (.iload_n 3, 1) := dk_29 (dk_at dksX5_clause_4 10 rfl rfl)
theorem dX5_clause_105 : decode cX5_clause 105 = .ok (.invokevirtual 197, 3) := dk_182 0 197 (dk_at dksX5_clause_4 11 rfl rfl)
theorem dX5_clause_108 : decode cX5_clause 108 = .ok (.ifCond .eq 12, 3) := dk_153 0 12 (dk_at dksX5_clause_4 14 rfl rfl)
theorem dX5_clause_111 : decode cX5_clause 111 = .ok (.aload_n 0, 1) := dk_42 (dk_at dksX5_clause_4 17 rfl rfl)
theorem dX5_clause_112 : decode cX5_clause 112 = .ok (.aload_n 1, 1) := dk_43 (dk_at dksX5_clause_4 18 rfl rfl)
theorem dX5_clause_113 : decode cX5_clause 113 = .ok (.iconst 0, 1) := dk_3 (dk_at dksX5_clause_4 19 rfl rfl)
theorem dX5_clause_114 : decode cX5_clause 114 = .ok (.invokevirtual 208, 3) := dk_182 0 208 (dk_at dksX5_clause_4 20 rfl rfl)
theorem dX5_clause_117 : decode cX5_clause 117 = .ok (.goto 103, 3) := dk_167 0 103 (dk_at dksX5_clause_5 0 rfl rfl)
theorem dX5_clause_120 : decode cX5_clause 120 = .ok (.aload_n 0, 1) := dk_42 (dk_at dksX5_clause_5 3 rfl rfl)
theorem dX5_clause_121 : decode cX5_clause 121 = .ok (.ldc 211, 2) := dk_18 211 (dk_at dksX5_clause_5 4 rfl rfl)
theorem dX5_clause_123 : decode cX5_clause 123 = .ok (.iload_n 3, 1) := dk_29 (dk_at dksX5_clause_5 6 rfl rfl)
theorem dX5_clause_124 : decode cX5_clause 124 = .ok (.invokevirtual 197, 3) := dk_182 0 197 (dk_at dksX5_clause_5 7 rfl rfl)
theorem dX5_clause_127 : decode cX5_clause 127 = .ok (.ifCond .eq 12, 3) := dk_153 0 12 (dk_at dksX5_clause_5 10 rfl rfl)
theorem dX5_clause_130 : decode cX5_clause 130 = .ok (.aload_n 0, 1) := dk_42 (dk_at dksX5_clause_5 13 rfl rfl)
theorem dX5_clause_131 : decode cX5_clause 131 = .ok (.aload_n 1, 1) := dk_43 (dk_at dksX5_clause_5 14 rfl rfl)
theorem dX5_clause_132 : decode cX5_clause 132 = .ok (.iconst 1, 1) := dk_4 (dk_at dksX5_clause_5 15 rfl rfl)
theorem dX5_clause_133 : decode cX5_clause 133 = .ok (.invokevirtual 208, 3) := dk_182 0 208 (dk_at dksX5_clause_5 16 rfl rfl)
theorem dX5_clause_136 : decode cX5_clause 136 = .ok (.goto 84, 3) := dk_167 0 84 (dk_at dksX5_clause_5 19 rfl rfl)
theorem dX5_clause_139 : decode cX5_clause 139 = .ok (.aload_n 0, 1) := dk_42 (dk_at dksX5_clause_5 22 rfl rfl)
theorem dX5_clause_140 : decode cX5_clause 140 = .ok (.ldc 213, 2) := dk_18 213 (dk_at dksX5_clause_6 0 rfl rfl)
theorem dX5_clause_142 : decode cX5_clause 142 = .ok (.iload_n 2, 1) := dk_28 (dk_at dksX5_clause_6 2 rfl rfl)
theorem dX5_clause_143 : decode cX5_clause 143 = .ok (.ifCond .eq 15, 3) := dk_153 0 15 (dk_at dksX5_clause_6 3 rfl rfl)
theorem dX5_clause_146 : decode cX5_clause 146 = .ok (.aload_n 1, 1) := dk_43 (dk_at dksX5_clause_6 6 rfl rfl)
theorem dX5_clause_147 : decode cX5_clause 147 = .ok (.getfield 181, 3) := dk_180 0 181 (dk_at dksX5_clause_6 7 rfl rfl)
theorem dX5_clause_150 : decode cX5_clause 150 = .ok (.iconst (-1), 1) := dk_2 (dk_at dksX5_clause_6 10 rfl rfl)
theorem dX5_clause_151 : decode cX5_clause 151 = .ok (.if_icmp .ne 7, 3) := dk_160 0 7 (dk_at dksX5_clause_6 11 rfl rfl)
theorem dX5_clause_154 : decode cX5_clause 154 = .ok (.iconst 1, 1) := dk_4 (dk_at dksX5_clause_6 14 rfl rfl)
theorem dX5_clause_155 : decode cX5_clause 155 = .ok (.goto 4, 3) := dk_167 0 4 (dk_at dksX5_clause_6 15 rfl rfl)
theorem dX5_clause_158 : decode cX5_clause 158 = .ok (.iconst 0, 1) := dk_3 (dk_at dksX5_clause_6 18 rfl rfl)
theorem dX5_clause_159 : decode cX5_clause 159 = .ok (.invokevirtual 197, 3) := dk_182 0 197 (dk_at dksX5_clause_6 19 rfl rfl)
theorem dX5_clause_162 : decode cX5_clause 162 = .ok (.ifCond .eq 11, 3) := dk_153 0 11 (dk_at dksX5_clause_7 0 rfl rfl)
theorem dX5_clause_165 : decode cX5_clause 165 = .ok (.aload_n 0, 1) := dk_42 (dk_at dksX5_clause_7 3 rfl rfl)
theorem dX5_clause_166 : decode cX5_clause 166 = .ok (.aload_n 1, 1) := dk_43 (dk_at dksX5_clause_7 4 rfl rfl)
theorem dX5_clause_167 : decode cX5_clause 167 = .ok (.invokevirtual 215, 3) := dk_182 0 215 (dk_at dksX5_clause_7 5 rfl rfl)
theorem dX5_clause_170 : decode cX5_clause 170 = .ok (.goto 50, 3) := dk_167 0 50 (dk_at dksX5_clause_7 8 rfl rfl)
theorem dX5_clause_173 : decode cX5_clause 173 = .ok (.aload_n 0, 1) := dk_42 (dk_at dksX5_clause_7 11 rfl rfl)
theorem dX5_clause_174 : decode cX5_clause 174 = .ok (.ldc 218, 2) := dk_18 218 (dk_at dksX5_clause_7 12 rfl rfl)
theorem dX5_clause_176 : decode cX5_clause 176 = .ok (.iload_n 2, 1) := dk_28 (dk_at dksX5_clause_7 14 rfl rfl)
theorem dX5_clause_177 : decode cX5_clause 177 = .ok (.ifCond .eq 15, 3) := dk_153 0 15 (dk_at dksX5_clause_7 15 rfl rfl)
theorem dX5_clause_180 : decode cX5_clause 180 = .ok (.aload_n 1, 1) := dk_43 (dk_at dksX5_clause_7 18 rfl rfl)
theorem dX5_clause_181 : decode cX5_clause 181 = .ok (.invokevirtual 220, 3) := dk_182 0 220 (dk_at dksX5_clause_7 19 rfl rfl)
theorem dX5_clause_184 : decode cX5_clause 184 = .ok (.iconst 4, 1) := dk_7 (dk_at dksX5_clause_7 22 rfl rfl)
theorem dX5_clause_185 : decode cX5_clause 185 = .ok (.if_icmp .ge 7, 3) := dk_162 0 7 (dk_at dksX5_clause_8 0 rfl rfl)
theorem dX5_clause_188 : decode cX5_clause 188 = .ok (.iconst 1, 1) := dk_4 (dk_at dksX5_clause_8 3 rfl rfl)
theorem dX5_clause_189 : decode cX5_clause 189 = .ok (.goto 4, 3) := dk_167 0 4 (dk_at dksX5_clause_8 4 rfl rfl)
theorem dX5_clause_192 : decode cX5_clause 192 = .ok (.iconst 0, 1) := dk_3 (dk_at dksX5_clause_8 7 rfl rfl)
theorem dX5_clause_193 : decode cX5_clause 193 = .ok (.invokevirtual 197, 3) := dk_182 0 197 (dk_at dksX5_clause_8 8 rfl rfl)
theorem dX5_clause_196 : decode cX5_clause 196 = .ok (.ifCond .eq 11, 3) := dk_153 0 11 (dk_at dksX5_clause_8 11 rfl rfl)
theorem dX5_clause_199 : decode cX5_clause 199 = .ok (.aload_n 0, 1) := dk_42 (dk_at dksX5_clause_8 14 rfl rfl)
theorem dX5_clause_200 : decode cX5_clause 200 = .ok (.aload_n 1, 1) := dk_43 (dk_at dksX5_clause_8 15 rfl rfl)
theorem dX5_clause_201 : decode cX5_clause 201 = .ok (.invokevirtual 223, 3) := dk_182 0 223 (dk_at dksX5_clause_8 16 rfl rfl)
theorem dX5_clause_204 : decode cX5_clause 204 = .ok (.goto 16, 3) := dk_167 0 16 (dk_at dksX5_clause_8 19 rfl rfl)
theorem dX5_clause_207 : decode cX5_clause 207 = .ok (.aload_n 0, 1) := dk_42 (dk_at dksX5_clause_8 22 rfl rfl)
theorem dX5_clause_208 : decode cX5_clause 208 = .ok (.getfield 3, 3) := dk_180 0 3 (dk_at dksX5_clause_9 0 rfl rfl)
theorem dX5_clause_211 : decode cX5_clause 211 = .ok (.iconst 0, 1) := dk_3 (dk_at dksX5_clause_9 3 rfl rfl)
theorem dX5_clause_212 : decode cX5_clause 212 = .ok (.aload_n 0, 1) := dk_42 (dk_at dksX5_clause_9 4 rfl rfl)
theorem dX5_clause_213 : decode cX5_clause 213 = .ok (.getfield 23, 3) := dk_180 0 23 (dk_at dksX5_clause_9 5 rfl rfl)
theorem dX5_clause_216 : decode cX5_clause 216 = .ok (.invokevirtual 69, 3) := dk_182 0 69 (dk_at dksX5_clause_9 8 rfl rfl)
theorem dX5_clause_219 : decode cX5_clause 219 = .ok (.athrow, 1) := dk_191 (dk_at dksX5_clause_9 11 rfl rfl)
theorem dX5_clause_220 : decode cX5_clause 220 = .ok (.return_, 1) := dk_177 (dk_at dksX5_clause_9 12 rfl rfl)
abbrev cX5_begins : ByteArray := prog_11_method_16_code
def yX5_begins : MethodName := ⟨RX5, "begins", "(Ljava/lang/String;Z)Z"⟩
def dkwX5_begins_2 : List UInt8 := [181, 0, 147, 42, 89, 180, 0, 23, 43, 182, 0, 52, 96, 181, 0, 23, 4, 172]
abbrev dktX5_begins_2 : List UInt8 := dkwX5_begins_2 ++ []
def dkwX5_begins_1 : List UInt8 := [154, 0, 16, 42, 180, 0, 3, 7, 42, 180, 0, 23, 182, 0, 69, 191, 42, 89, 180, 0, 147, 4, 96]
abbrev dktX5_begins_1 : List UInt8 := dkwX5_begins_1 ++ dktX5_begins_2
def dkwX5_begins_0 : List UInt8 := [42, 43, 182, 0, 61, 154, 0, 5, 3, 172, 42, 180, 0, 147, 42, 180, 0, 19, 159, 0, 7, 28]
abbrev dktX5_begins_0 : List UInt8 := dkwX5_begins_0 ++ dktX5_begins_1
theorem dksX5_begins_0 : cX5_begins.data.toList.drop 0 = dktX5_begins_0 := by decide +kernel
theorem dksX5_begins_1 : cX5_begins.data.toList.drop 22 = dktX5_begins_1 := dk_seg dksX5_begins_0 22 rfl rfl
theorem dksX5_begins_2 : cX5_begins.data.toList.drop 45 = dktX5_begins_2 := dk_seg dksX5_begins_1 23 rfl rfl
theorem dX5_begins_0 : decode cX5_begins 0 = .ok (.aload_n 0, 1) := dk_42 (dk_at dksX5_begins_0 0 rfl rfl)
theorem dX5_begins_1 : decode cX5_begins 1 = .ok (.aload_n 1, 1) := dk_43 (dk_at dksX5_begins_0 1 rfl rfl)
theorem dX5_begins_2 : decode cX5_begins 2 = .ok (.invokevirtual 61, 3) := dk_182 0 61 (dk_at dksX5_begins_0 2 rfl rfl)
theorem dX5_begins_5 : decode cX5_begins 5 = .ok (.ifCond .ne 5, 3) := dk_154 0 5 (dk_at dksX5_begins_0 5 rfl rfl)
theorem dX5_begins_8 : decode cX5_begins 8 = .ok (.iconst 0, 1) := dk_3 (dk_at dksX5_begins_0 8 rfl rfl)
theorem dX5_begins_9 : decode cX5_begins 9 = .ok (.ireturn, 1) := dk_172 (dk_at dksX5_begins_0 9 rfl rfl)
theorem dX5_begins_10 : decode cX5_begins 10 = .ok (.aload_n 0, 1) := dk_42 (dk_at dksX5_begins_0 10 rfl rfl)
theorem dX5_begins_11 : decode cX5_begins 11 = .ok (.getfield 147, 3) := dk_180 0 147 (dk_at dksX5_begins_0 11 rfl rfl)
theorem dX5_begins_14 : decode cX5_begins 14 = .ok (.aload_n 0, 1) := dk_42 (dk_at dksX5_begins_0 14 rfl rfl)
theorem dX5_begins_15 : decode cX5_begins 15 = .ok (.getfield 19, 3) := dk_180 0 19 (dk_at dksX5_begins_0 15 rfl rfl)
theorem dX5_begins_18 : decode cX5_begins 18 = .ok (.if_icmp .eq 7, 3) := dk_159 0 7 (dk_at dksX5_begins_0 18 rfl rfl)
theorem dX5_begins_21 : decode cX5_begins 21 = .ok (.iload_n 2, 1) := dk_28 (dk_at dksX5_begins_0 21 rfl rfl)
theorem dX5_begins_22 : decode cX5_begins 22 = .ok (.ifCond .ne 16, 3) := dk_154 0 16 (dk_at dksX5_begins_1 0 rfl rfl)
theorem dX5_begins_25 : decode cX5_begins 25 = .ok (.aload_n 0, 1) := dk_42 (dk_at dksX5_begins_1 3 rfl rfl)
theorem dX5_begins_26 : decode cX5_begins 26 = .ok (.getfield 3, 3) := dk_180 0 3 (dk_at dksX5_begins_1 4 rfl rfl)
theorem dX5_begins_29 : decode cX5_begins 29 = .ok (.iconst 4, 1) := dk_7 (dk_at dksX5_begins_1 7 rfl rfl)
theorem dX5_begins_30 : decode cX5_begins 30 = .ok (.aload_n 0, 1) := dk_42 (dk_at dksX5_begins_1 8 rfl rfl)
theorem dX5_begins_31 : decode cX5_begins 31 = .ok (.getfield 23, 3) := dk_180 0 23 (dk_at dksX5_begins_1 9 rfl rfl)
theorem dX5_begins_34 : decode cX5_begins 34 = .ok (.invokevirtual 69, 3) := dk_182 0 69 (dk_at dksX5_begins_1 12 rfl rfl)
theorem dX5_begins_37 : decode cX5_begins 37 = .ok (.athrow, 1) := dk_191 (dk_at dksX5_begins_1 15 rfl rfl)
theorem dX5_begins_38 : decode cX5_begins 38 = .ok (.aload_n 0, 1) := dk_42 (dk_at dksX5_begins_1 16 rfl rfl)
theorem dX5_begins_39 : decode cX5_begins 39 = .ok (.dup, 1) := dk_89 (dk_at dksX5_begins_1 17 rfl rfl)
theorem dX5_begins_40 : decode cX5_begins 40 = .ok (.getfield 147, 3) := dk_180 0 147 (dk_at dksX5_begins_1 18 rfl rfl)
theorem dX5_begins_43 : decode cX5_begins 43 = .ok (.iconst 1, 1) := dk_4 (dk_at dksX5_begins_1 21 rfl rfl)
theorem dX5_begins_44 : decode cX5_begins 44 = .ok (.iadd, 1) := dk_96 (dk_at dksX5_begins_1 22 rfl rfl)
theorem dX5_begins_45 : decode cX5_begins 45 = .ok (.putfield 147, 3) := dk_181 0 147 (dk_at dksX5_begins_2 0 rfl rfl)
theorem dX5_begins_48 : decode cX5_begins 48 = .ok (.aload_n 0, 1) := dk_42 (dk_at dksX5_begins_2 3 rfl rfl)
theorem dX5_begins_49 : decode cX5_begins 49 = .ok (.dup, 1) := dk_89 (dk_at dksX5_begins_2 4 rfl rfl)
theorem dX5_begins_50 : decode cX5_begins 50 = .ok (.getfield 23, 3) := dk_180 0 23 (dk_at dksX5_begins_2 5 rfl rfl)
theorem dX5_begins_53 : decode cX5_begins 53 = .ok (.aload_n 1, 1) := dk_43 (dk_at dksX5_begins_2 8 rfl rfl)
theorem dX5_begins_54 : decode cX5_begins 54 = .ok (.invokevirtual 52, 3) := dk_182 0 52 (dk_at dksX5_begins_2 9 rfl rfl)
theorem dX5_begins_57 : decode cX5_begins 57 = .ok (.iadd, 1) := dk_96 (dk_at dksX5_begins_2 12 rfl rfl)
theorem dX5_begins_58 : decode cX5_begins 58 = .ok (.putfield 23, 3) := dk_181 0 23 (dk_at dksX5_begins_2 13 rfl rfl)
theorem dX5_begins_61 : decode cX5_begins 61 = .ok (.iconst 1, 1) := dk_4 (dk_at dksX5_begins_2 16 rfl rfl)
theorem dX5_begins_62 : decode cX5_begins 62 = .ok (.ireturn, 1) := dk_172 (dk_at dksX5_begins_2 17 rfl rfl)
abbrev cX5_isWord : ByteArray := prog_11_method_5_code
def yX5_isWord : MethodName := ⟨RX5, "isWord", "(Ljava/lang/String;)Z"⟩
def dkwX5_isWord_5 : List UInt8 := [132, 4, 1, 167, 255, 210, 29, 172]
abbrev dktX5_isWord_5 : List UInt8 := dkwX5_isWord_5 ++ []
def dkwX5_isWord_4 : List UInt8 := [180, 0, 23, 21, 4, 96, 51, 43, 21, 4, 182, 0, 57, 160, 0, 7, 4, 167, 0, 4, 3, 62]
abbrev dktX5_isWord_4 : List UInt8 := dkwX5_isWord_4 ++ dktX5_isWord_5
def dkwX5_isWord_3 : List UInt8 := [54, 4, 21, 4, 43, 182, 0, 52, 162, 0, 43, 29, 153, 0, 39, 42, 180, 0, 3, 180, 0, 29, 42]
abbrev dktX5_isWord_3 : List UInt8 := dkwX5_isWord_3 ++ dktX5_isWord_4
def dkwX5_isWord_2 : List UInt8 := [167, 255, 220, 28, 42, 180, 0, 23, 100, 43, 182, 0, 52, 160, 0, 7, 4, 167, 0, 4, 3, 62, 3]
abbrev dktX5_isWord_2 : List UInt8 := dkwX5_isWord_2 ++ dktX5_isWord_3
def dkwX5_isWord_1 : List UInt8 := [180, 0, 3, 180, 0, 29, 28, 51, 133, 20, 0, 48, 20, 0, 50, 184, 0, 41, 153, 0, 9, 132, 2, 1]
abbrev dktX5_isWord_1 : List UInt8 := dkwX5_isWord_1 ++ dktX5_isWord_2
def dkwX5_isWord_0 : List UInt8 := [42, 182, 0, 45, 87, 42, 180, 0, 23, 61, 28, 42, 180, 0, 3, 180, 0, 26, 162, 0, 31, 42]
abbrev dktX5_isWord_0 : List UInt8 := dkwX5_isWord_0 ++ dktX5_isWord_1
theorem dksX5_isWord_0 : cX5_isWord.data.toList.drop 0 = dktX5_isWord_0 := by decide +kernel
theorem dksX5_isWord_1 : cX5_isWord.data.toList.drop 22 = dktX5_isWord_1 := dk_seg dksX5_isWord_0 22 rfl rfl
theorem dksX5_isWord_2 : cX5_isWord.data.toList.drop 46 = dktX5_isWord_2 := dk_seg dksX5_isWord_1 24 rfl rfl
theorem dksX5_isWord_3 : cX5_isWord.data.toList.drop 69 = dktX5_isWord_3 := dk_seg dksX5_isWord_2 23 rfl rfl
theorem dksX5_isWord_4 : cX5_isWord.data.toList.drop 92 = dktX5_isWord_4 := dk_seg dksX5_isWord_3 23 rfl rfl
theorem dksX5_isWord_5 : cX5_isWord.data.toList.drop 114 = dktX5_isWord_5 := dk_seg dksX5_isWord_4 22 rfl rfl
theorem dX5_isWord_0 : decode cX5_isWord 0 = .ok (.aload_n 0, 1) := dk_42 (dk_at dksX5_isWord_0 0 rfl rfl)
theorem dX5_isWord_1 : decode cX5_isWord 1 = .ok (.invokevirtual 45, 3) := dk_182 0 45 (dk_at dksX5_isWord_0 1 rfl rfl)
theorem dX5_isWord_4 : decode cX5_isWord 4 = .ok (.pop, 1) := dk_87 (dk_at dksX5_isWord_0 4 rfl rfl)
theorem dX5_isWord_5 : decode cX5_isWord 5 = .ok (.aload_n 0, 1) := dk_42 (dk_at dksX5_isWord_0 5 rfl rfl)
theorem dX5_isWord_6 : decode cX5_isWord 6 = .ok (.getfield 23, 3) := dk_180 0 23 (dk_at dksX5_isWord_0 6 rfl rfl)
theorem dX5_isWord_9 : decode cX5_isWord 9 = .ok (.istore_n 2, 1) := dk_61 (dk_at dksX5_isWord_0 9 rfl rfl)
theorem dX5_isWord_10 : decode cX5_isWord 10 = .ok (.iload_n 2, 1) := dk_28 (dk_at dksX5_isWord_0 10 rfl rfl)
theorem dX5_isWord_11 : decode cX5_isWord 11 = .ok (.aload_n 0, 1) := dk_42 (dk_at dksX5_isWord_0 11 rfl rfl)
theorem dX5_isWord_12 : decode cX5_isWord 12 = .ok (.getfield 3, 3) := dk_180 0 3 (dk_at dksX5_isWord_0 12 rfl rfl)
theorem dX5_isWord_15 : decode cX5_isWord 15 = .ok (.getfield 26, 3) := dk_180 0 26 (dk_at dksX5_isWord_0 15 rfl rfl)
theorem dX5_isWord_18 : decode cX5_isWord 18 = .ok (.if_icmp .ge 31, 3) := dk_162 0 31 (dk_at dksX5_isWord_0 18 rfl rfl)
theorem dX5_isWord_21 : decode cX5_isWord 21 = .ok (.aload_n 0, 1) := dk_42 (dk_at dksX5_isWord_0 21 rfl rfl)
theorem dX5_isWord_22 : decode cX5_isWord 22 = .ok (.getfield 3, 3) := dk_180 0 3 (dk_at dksX5_isWord_1 0 rfl rfl)
theorem dX5_isWord_25 : decode cX5_isWord 25 = .ok (.getfield 29, 3) := dk_180 0 29 (dk_at dksX5_isWord_1 3 rfl rfl)
theorem dX5_isWord_28 : decode cX5_isWord 28 = .ok (.iload_n 2, 1) := dk_28 (dk_at dksX5_isWord_1 6 rfl rfl)
theorem dX5_isWord_29 : decode cX5_isWord 29 = .ok (.baload, 1) := dk_51 (dk_at dksX5_isWord_1 7 rfl rfl)
theorem dX5_isWord_30 : decode cX5_isWord 30 = .ok (.i2l, 1) := dk_133 (dk_at dksX5_isWord_1 8 rfl rfl)
theorem dX5_isWord_31 : decode cX5_isWord 31 = .ok (.ldc2_w 48, 3) := dk_20 0 48 (dk_at dksX5_isWord_1 9 rfl rfl)
theorem dX5_isWord_34 : decode cX5_isWord 34 = .ok (.ldc2_w 50, 3) := dk_20 0 50 (dk_at dksX5_isWord_1 12 rfl rfl)
theorem dX5_isWord_37 : decode cX5_isWord 37 = .ok (.invokestatic 41, 3) := dk_184 0 41 (dk_at dksX5_isWord_1 15 rfl rfl)
theorem dX5_isWord_40 : decode cX5_isWord 40 = .ok (.ifCond .eq 9, 3) := dk_153 0 9 (dk_at dksX5_isWord_1 18 rfl rfl)
theorem dX5_isWord_43 : decode cX5_isWord 43 = .ok (.iinc 2 1, 3) := dk_132 2 1 (dk_at dksX5_isWord_1 21 rfl rfl)
theorem dX5_isWord_46 : decode cX5_isWord 46 = .ok (.goto (-36), 3) := dk_167 255 220 (dk_at dksX5_isWord_2 0 rfl rfl)
theorem dX5_isWord_49 : decode cX5_isWord 49 = .ok (.iload_n 2, 1) := dk_28 (dk_at dksX5_isWord_2 3 rfl rfl)
theorem dX5_isWord_50 : decode cX5_isWord 50 = .ok (.aload_n 0, 1) := dk_42 (dk_at dksX5_isWord_2 4 rfl rfl)
theorem dX5_isWord_51 : decode cX5_isWord 51 = .ok (.getfield 23, 3) := dk_180 0 23 (dk_at dksX5_isWord_2 5 rfl rfl)
theorem dX5_isWord_54 : decode cX5_isWord 54 = .ok (.isub, 1) := dk_100 (dk_at dksX5_isWord_2 8 rfl rfl)
theorem dX5_isWord_55 : decode cX5_isWord 55 = .ok (.aload_n 1, 1) := dk_43 (dk_at dksX5_isWord_2 9 rfl rfl)
theorem dX5_isWord_56 : decode cX5_isWord 56 = .ok (.invokevirtual 52, 3) := dk_182 0 52 (dk_at dksX5_isWord_2 10 rfl rfl)
theorem dX5_isWord_59 : decode cX5_isWord 59 = .ok (.if_icmp .ne 7, 3) := dk_160 0 7 (dk_at dksX5_isWord_2 13 rfl rfl)
theorem dX5_isWord_62 : decode cX5_isWord 62 = .ok (.iconst 1, 1) := dk_4 (dk_at dksX5_isWord_2 16 rfl rfl)
theorem dX5_isWord_63 : decode cX5_isWord 63 = .ok (.goto 4, 3) := dk_167 0 4 (dk_at dksX5_isWord_2 17 rfl rfl)
theorem dX5_isWord_66 : decode cX5_isWord 66 = .ok (.iconst 0, 1) := dk_3 (dk_at dksX5_isWord_2 20 rfl rfl)
theorem dX5_isWord_67 : decode cX5_isWord 67 = .ok (.istore_n 3, 1) := dk_62 (dk_at dksX5_isWord_2 21 rfl rfl)
theorem dX5_isWord_68 : decode cX5_isWord 68 = .ok (.iconst 0, 1) := dk_3 (dk_at dksX5_isWord_2 22 rfl rfl)
theorem dX5_isWord_69 : decode cX5_isWord 69 = .ok (.istore 4, 2) := dk_54 4 (dk_at dksX5_isWord_3 0 rfl rfl)
theorem dX5_isWord_71 : decode cX5_isWord 71 = .ok (.iload 4, 2) := dk_21 4 (dk_at dksX5_isWord_3 2 rfl rfl)
theorem dX5_isWord_73 : decode cX5_isWord 73 = .ok (.aload_n 1, 1) := dk_43 (dk_at dksX5_isWord_3 4 rfl rfl)
theorem dX5_isWord_74 : decode cX5_isWord 74 = .ok (.invokevirtual 52, 3) := dk_182 0 52 (dk_at dksX5_isWord_3 5 rfl rfl)
theorem dX5_isWord_77 : decode cX5_isWord 77 = .ok (.if_icmp .ge 43, 3) := dk_162 0 43 (dk_at dksX5_isWord_3 8 rfl rfl)
theorem dX5_isWord_80 : decode cX5_isWord 80 = .ok (.iload_n 3, 1) := dk_29 (dk_at dksX5_isWord_3 11 rfl rfl)
theorem dX5_isWord_81 : decode cX5_isWord 81 = .ok (.ifCond .eq 39, 3) := dk_153 0 39 (dk_at dksX5_isWord_3 12 rfl rfl)
theorem dX5_isWord_84 : decode cX5_isWord 84 = .ok (.aload_n 0, 1) := dk_42 (dk_at dksX5_isWord_3 15 rfl rfl)
theorem dX5_isWord_85 : decode cX5_isWord 85 = .ok (.getfield 3, 3) := dk_180 0 3 (dk_at dksX5_isWord_3 16 rfl rfl)
theorem dX5_isWord_88 : decode cX5_isWord 88 = .ok (.getfield 29, 3) := dk_180 0 29 (dk_at dksX5_isWord_3 19 rfl rfl)
theorem dX5_isWord_91 : decode cX5_isWord 91 = .ok (.aload_n 0, 1) := dk_42 (dk_at dksX5_isWord_3 22 rfl rfl)
theorem dX5_isWord_92 : decode cX5_isWord 92 = .ok (.getfield 23, 3) := dk_180 0 23 (dk_at dksX5_isWord_4 0 rfl rfl)
theorem dX5_isWord_95 : decode cX5_isWord 95 = .ok (.iload 4, 2) := dk_21 4 (dk_at dksX5_isWord_4 3 rfl rfl)
theorem dX5_isWord_97 : decode cX5_isWord 97 = .ok (.iadd, 1) := dk_96 (dk_at dksX5_isWord_4 5 rfl rfl)
theorem dX5_isWord_98 : decode cX5_isWord 98 = .ok (.baload, 1) := dk_51 (dk_at dksX5_isWord_4 6 rfl rfl)
theorem dX5_isWord_99 : decode cX5_isWord 99 = .ok (.aload_n 1, 1) := dk_43 (dk_at dksX5_isWord_4 7 rfl rfl)
theorem dX5_isWord_100 : decode cX5_isWord 100 = .ok (.iload 4, 2) := dk_21 4 (dk_at dksX5_isWord_4 8 rfl rfl)
theorem dX5_isWord_102 : decode cX5_isWord 102 = .ok (.invokevirtual 57, 3) := dk_182 0 57 (dk_at dksX5_isWord_4 10 rfl rfl)
theorem dX5_isWord_105 : decode cX5_isWord 105 = .ok (.if_icmp .ne 7, 3) := dk_160 0 7 (dk_at dksX5_isWord_4 13 rfl rfl)
theorem dX5_isWord_108 : decode cX5_isWord 108 = .ok (.iconst 1, 1) := dk_4 (dk_at dksX5_isWord_4 16 rfl rfl)
theorem dX5_isWord_109 : decode cX5_isWord 109 = .ok (.goto 4, 3) := dk_167 0 4 (dk_at dksX5_isWord_4 17 rfl rfl)
theorem dX5_isWord_112 : decode cX5_isWord 112 = .ok (.iconst 0, 1) := dk_3 (dk_at dksX5_isWord_4 20 rfl rfl)
theorem dX5_isWord_113 : decode cX5_isWord 113 = .ok (.istore_n 3, 1) := dk_62 (dk_at dksX5_isWord_4 21 rfl rfl)
theorem dX5_isWord_114 : decode cX5_isWord 114 = .ok (.iinc 4 1, 3) := dk_132 4 1 (dk_at dksX5_isWord_5 0 rfl rfl)
theorem dX5_isWord_117 : decode cX5_isWord 117 = .ok (.goto (-46), 3) := dk_167 255 210 (dk_at dksX5_isWord_5 3 rfl rfl)
theorem dX5_isWord_120 : decode cX5_isWord 120 = .ok (.iload_n 3, 1) := dk_29 (dk_at dksX5_isWord_5 6 rfl rfl)
theorem dX5_isWord_121 : decode cX5_isWord 121 = .ok (.ireturn, 1) := dk_172 (dk_at dksX5_isWord_5 7 rfl rfl)
abbrev cX5_next : ByteArray := prog_11_method_3_code
def yX5_next : MethodName := ⟨RX5, "next", "()I"⟩
def dkwX5_next_1 : List UInt8 := [182, 0, 33, 172]
abbrev dktX5_next_1 : List UInt8 := dkwX5_next_1 ++ []
def dkwX5_next_0 : List UInt8 := [42, 182, 0, 33, 16, 32, 160, 0, 16, 42, 89, 180, 0, 23, 4, 96, 181, 0, 23, 167, 255, 237, 42]
abbrev dktX5_next_0 : List UInt8 := dkwX5_next_0 ++ dktX5_next_1
theorem dksX5_next_0 : cX5_next.data.toList.drop 0 = dktX5_next_0 := by decide +kernel
theorem dksX5_next_1 : cX5_next.data.toList.drop 23 = dktX5_next_1 := dk_seg dksX5_next_0 23 rfl rfl
theorem dX5_next_0 : decode cX5_next 0 = .ok (.aload_n 0, 1) := dk_42 (dk_at dksX5_next_0 0 rfl rfl)
theorem dX5_next_1 : decode cX5_next 1 = .ok (.invokevirtual 33, 3) := dk_182 0 33 (dk_at dksX5_next_0 1 rfl rfl)
theorem dX5_next_4 : decode cX5_next 4 = .ok (.bipush 32, 2) := dk_16 32 (dk_at dksX5_next_0 4 rfl rfl)
theorem dX5_next_6 : decode cX5_next 6 = .ok (.if_icmp .ne 16, 3) := dk_160 0 16 (dk_at dksX5_next_0 6 rfl rfl)
theorem dX5_next_9 : decode cX5_next 9 = .ok (.aload_n 0, 1) := dk_42 (dk_at dksX5_next_0 9 rfl rfl)
theorem dX5_next_10 : decode cX5_next 10 = .ok (.dup, 1) := dk_89 (dk_at dksX5_next_0 10 rfl rfl)
theorem dX5_next_11 : decode cX5_next 11 = .ok (.getfield 23, 3) := dk_180 0 23 (dk_at dksX5_next_0 11 rfl rfl)
theorem dX5_next_14 : decode cX5_next 14 = .ok (.iconst 1, 1) := dk_4 (dk_at dksX5_next_0 14 rfl rfl)
theorem dX5_next_15 : decode cX5_next 15 = .ok (.iadd, 1) := dk_96 (dk_at dksX5_next_0 15 rfl rfl)
theorem dX5_next_16 : decode cX5_next 16 = .ok (.putfield 23, 3) := dk_181 0 23 (dk_at dksX5_next_0 16 rfl rfl)
theorem dX5_next_19 : decode cX5_next 19 = .ok (.goto (-19), 3) := dk_167 255 237 (dk_at dksX5_next_0 19 rfl rfl)
theorem dX5_next_22 : decode cX5_next 22 = .ok (.aload_n 0, 1) := dk_42 (dk_at dksX5_next_0 22 rfl rfl)
theorem dX5_next_23 : decode cX5_next 23 = .ok (.invokevirtual 33, 3) := dk_182 0 33 (dk_at dksX5_next_1 0 rfl rfl)
theorem dX5_next_26 : decode cX5_next 26 = .ok (.ireturn, 1) := dk_172 (dk_at dksX5_next_1 3 rfl rfl)
abbrev cX5_sign : ByteArray := prog_11_method_2_code
def yX5_sign : MethodName := ⟨RX5, "sign", "()I"⟩
def dkwX5_sign_1 : List UInt8 := [180, 0, 23, 51, 17, 0, 255, 126, 167, 0, 4, 2, 172]
abbrev dktX5_sign_1 : List UInt8 := dkwX5_sign_1 ++ []
def dkwX5_sign_0 : List UInt8 := [42, 180, 0, 23, 42, 180, 0, 3, 180, 0, 26, 162, 0, 22, 42, 180, 0, 3, 180, 0, 29, 42]
abbrev dktX5_sign_0 : List UInt8 := dkwX5_sign_0 ++ dktX5_sign_1
theorem dksX5_sign_0 : cX5_sign.data.toList.drop 0 = dktX5_sign_0 := by decide +kernel
theorem dksX5_sign_1 : cX5_sign.data.toList.drop 22 = dktX5_sign_1 := dk_seg dksX5_sign_0 22 rfl rfl
theorem dX5_sign_0 : decode cX5_sign 0 = .ok (.aload_n 0, 1) := dk_42 (dk_at dksX5_sign_0 0 rfl rfl)
theorem dX5_sign_1 : decode cX5_sign 1 = .ok (.getfield 23, 3) := dk_180 0 23 (dk_at dksX5_sign_0 1 rfl rfl)
theorem dX5_sign_4 : decode cX5_sign 4 = .ok (.aload_n 0, 1) := dk_42 (dk_at dksX5_sign_0 4 rfl rfl)
theorem dX5_sign_5 : decode cX5_sign 5 = .ok (.getfield 3, 3) := dk_180 0 3 (dk_at dksX5_sign_0 5 rfl rfl)
theorem dX5_sign_8 : decode cX5_sign 8 = .ok (.getfield 26, 3) := dk_180 0 26 (dk_at dksX5_sign_0 8 rfl rfl)
theorem dX5_sign_11 : decode cX5_sign 11 = .ok (.if_icmp .ge 22, 3) := dk_162 0 22 (dk_at dksX5_sign_0 11 rfl rfl)
theorem dX5_sign_14 : decode cX5_sign 14 = .ok (.aload_n 0, 1) := dk_42 (dk_at dksX5_sign_0 14 rfl rfl)
theorem dX5_sign_15 : decode cX5_sign 15 = .ok (.getfield 3, 3) := dk_180 0 3 (dk_at dksX5_sign_0 15 rfl rfl)
theorem dX5_sign_18 : decode cX5_sign 18 = .ok (.getfield 29, 3) := dk_180 0 29 (dk_at dksX5_sign_0 18 rfl rfl)
theorem dX5_sign_21 : decode cX5_sign 21 = .ok (.aload_n 0, 1) := dk_42 (dk_at dksX5_sign_0 21 rfl rfl)
theorem dX5_sign_22 : decode cX5_sign 22 = .ok (.getfield 23, 3) := dk_180 0 23 (dk_at dksX5_sign_1 0 rfl rfl)
theorem dX5_sign_25 : decode cX5_sign 25 = .ok (.baload, 1) := dk_51 (dk_at dksX5_sign_1 3 rfl rfl)
theorem dX5_sign_26 : decode cX5_sign 26 = .ok (.sipush 255, 3) := dk_17 0 255 (dk_at dksX5_sign_1 4 rfl rfl)
theorem dX5_sign_29 : decode cX5_sign 29 = .ok (.iand, 1) := dk_126 (dk_at dksX5_sign_1 7 rfl rfl)
theorem dX5_sign_30 : decode cX5_sign 30 = .ok (.goto 4, 3) := dk_167 0 4 (dk_at dksX5_sign_1 8 rfl rfl)
theorem dX5_sign_33 : decode cX5_sign 33 = .ok (.iconst (-1), 1) := dk_2 (dk_at dksX5_sign_1 11 rfl rfl)
theorem dX5_sign_34 : decode cX5_sign 34 = .ok (.ireturn, 1) := dk_172 (dk_at dksX5_sign_1 12 rfl rfl)
abbrev cX5_number : ByteArray := prog_11_method_7_code
def yX5_number : MethodName := ⟨RX5, "number", "(II)I"⟩
def dkwX5_number_4 : List UInt8 := [133, 27, 133, 28, 133, 184, 0, 41, 154, 0, 13, 42, 180, 0, 3, 4, 29, 182, 0, 69, 191, 21, 4, 172]
abbrev dktX5_number_4 : List UInt8 := dkwX5_number_4 ++ []
def dkwX5_number_3 : List UInt8 := [89, 180, 0, 23, 4, 96, 181, 0, 23, 167, 255, 209, 42, 180, 0, 23, 29, 100, 8, 163, 0, 16, 21, 4]
abbrev dktX5_number_3 : List UInt8 := dkwX5_number_3 ++ dktX5_number_4
def dkwX5_number_2 : List UInt8 := [162, 0, 19, 16, 10, 21, 4, 104, 42, 182, 0, 33, 96, 16, 48, 100, 167, 0, 5, 21, 4, 54, 4, 42]
abbrev dktX5_number_2 : List UInt8 := dkwX5_number_2 ++ dktX5_number_3
def dkwX5_number_1 : List UInt8 := [191, 42, 180, 0, 23, 62, 3, 54, 4, 42, 182, 0, 65, 153, 0, 46, 42, 180, 0, 23, 29, 100, 8]
abbrev dktX5_number_1 : List UInt8 := dkwX5_number_1 ++ dktX5_number_2
def dkwX5_number_0 : List UInt8 := [42, 182, 0, 45, 87, 42, 182, 0, 65, 154, 0, 16, 42, 180, 0, 3, 3, 42, 180, 0, 23, 182, 0, 69]
abbrev dktX5_number_0 : List UInt8 := dkwX5_number_0 ++ dktX5_number_1
theorem dksX5_number_0 : cX5_number.data.toList.drop 0 = dktX5_number_0 := by decide +kernel
theorem dksX5_number_1 : cX5_number.data.toList.drop 24 = dktX5_number_1 := dk_seg dksX5_number_0 24 rfl rfl
theorem dksX5_number_2 : cX5_number.data.toList.drop 47 = dktX5_number_2 := dk_seg dksX5_number_1 23 rfl rfl
theorem dksX5_number_3 : cX5_number.data.toList.drop 71 = dktX5_number_3 := dk_seg dksX5_number_2 24 rfl rfl
theorem dksX5_number_4 : cX5_number.data.toList.drop 95 = dktX5_number_4 := dk_seg dksX5_number_3 24 rfl rfl
theorem dX5_number_0 : decode cX5_number 0 = .ok (.aload_n 0, 1) := dk_42 (dk_at dksX5_number_0 0 rfl rfl)
theorem dX5_number_1 : decode cX5_number 1 = .ok (.invokevirtual 45, 3) := dk_182 0 45 (dk_at dksX5_number_0 1 rfl rfl)
theorem dX5_number_4 : decode cX5_number 4 = .ok (.pop, 1) := dk_87 (dk_at dksX5_number_0 4 rfl rfl)
theorem dX5_number_5 : decode cX5_number 5 = .ok (.aload_n 0, 1) := dk_42 (dk_at dksX5_number_0 5 rfl rfl)
theorem dX5_number_6 : decode cX5_number 6 = .ok (.invokevirtual 65, 3) := dk_182 0 65 (dk_at dksX5_number_0 6 rfl rfl)
theorem dX5_number_9 : decode cX5_number 9 = .ok (.ifCond .ne 16, 3) := dk_154 0 16 (dk_at dksX5_number_0 9 rfl rfl)
theorem dX5_number_12 : decode cX5_number 12 = .ok (.aload_n 0, 1) := dk_42 (dk_at dksX5_number_0 12 rfl rfl)
theorem dX5_number_13 : decode cX5_number 13 = .ok (.getfield 3, 3) := dk_180 0 3 (dk_at dksX5_number_0 13 rfl rfl)
theorem dX5_number_16 : decode cX5_number 16 = .ok (.iconst 0, 1) := dk_3 (dk_at dksX5_number_0 16 rfl rfl)
theorem dX5_number_17 : decode cX5_number 17 = .ok (.aload_n 0, 1) := dk_42 (dk_at dksX5_number_0 17 rfl rfl)
theorem dX5_number_18 : decode cX5_number 18 = .ok (.getfield 23, 3) := dk_180 0 23 (dk_at dksX5_number_0 18 rfl rfl)
theorem dX5_number_21 : decode cX5_number 21 = .ok (.invokevirtual 69, 3) := dk_182 0 69 (dk_at dksX5_number_0 21 rfl rfl)
theorem dX5_number_24 : decode cX5_number 24 = .ok (.athrow, 1) := dk_191 (dk_at dksX5_number_1 0 rfl rfl)
theorem dX5_number_25 : decode cX5_number 25 = .ok (.aload_n 0, 1) := dk_42 (dk_at dksX5_number_1 1 rfl rfl)
theorem dX5_number_26 : decode cX5_number 26 = .ok (.getfield 23, 3) := dk_180 0 23 (dk_at dksX5_number_1 2 rfl rfl)
theorem dX5_number_29 : decode cX5_number 29 = .ok (.istore_n 3, 1) := dk_62 (dk_at dksX5_number_1 5 rfl rfl)
theorem dX5_number_30 : decode cX5_number 30 = .ok (.iconst 0, 1) := dk_3 (dk_at dksX5_number_1 6 rfl rfl)
theorem dX5_number_31 : decode cX5_number 31 = .ok (.istore 4, 2) := dk_54 4 (dk_at dksX5_number_1 7 rfl rfl)
theorem dX5_number_33 : decode cX5_number 33 = .ok (.aload_n 0, 1) := dk_42 (dk_at dksX5_number_1 9 rfl rfl)
theorem dX5_number_34 : decode cX5_number 34 = .ok (.invokevirtual 65, 3) := dk_182 0 65 (dk_at dksX5_number_1 10 rfl rfl)
theorem dX5_number_37 : decode cX5_number 37 = .ok (.ifCond .eq 46, 3) := dk_153 0 46 (dk_at dksX5_number_1 13 rfl rfl)
theorem dX5_number_40 : decode cX5_number 40 = .ok (.aload_n 0, 1) := dk_42 (dk_at dksX5_number_1 16 rfl rfl)
theorem dX5_number_41 : decode cX5_number 41 = .ok (.getfield 23, 3) := dk_180 0 23 (dk_at dksX5_number_1 17 rfl rfl)
theorem dX5_number_44 : decode cX5_number 44 = .ok (.iload_n 3, 1) := dk_29 (dk_at dksX5_number_1 20 rfl rfl)
theorem dX5_number_45 : decode cX5_number 45 = .ok (.isub, 1) := dk_100 (dk_at dksX5_number_1 21 rfl rfl)
theorem dX5_number_46 : decode cX5_number 46 = .ok (.iconst 5, 1) := dk_8 (dk_at dksX5_number_1 22 rfl rfl)
theorem dX5_number_47 : decode cX5_number 47 = .ok (.if_icmp .ge 19, 3) := dk_162 0 19 (dk_at dksX5_number_2 0 rfl rfl)
theorem dX5_number_50 : decode cX5_number 50 = .ok (.bipush 10, 2) := dk_16 10 (dk_at dksX5_number_2 3 rfl rfl)
theorem dX5_number_52 : decode cX5_number 52 = .ok (.iload 4, 2) := dk_21 4 (dk_at dksX5_number_2 5 rfl rfl)
theorem dX5_number_54 : decode cX5_number 54 = .ok (.imul, 1) := dk_104 (dk_at dksX5_number_2 7 rfl rfl)
theorem dX5_number_55 : decode cX5_number 55 = .ok (.aload_n 0, 1) := dk_42 (dk_at dksX5_number_2 8 rfl rfl)
theorem dX5_number_56 : decode cX5_number 56 = .ok (.invokevirtual 33, 3) := dk_182 0 33 (dk_at dksX5_number_2 9 rfl rfl)
theorem dX5_number_59 : decode cX5_number 59 = .ok (.iadd, 1) := dk_96 (dk_at dksX5_number_2 12 rfl rfl)
theorem dX5_number_60 : decode cX5_number 60 = .ok (.bipush 48, 2) := dk_16 48 (dk_at dksX5_number_2 13 rfl rfl)
theorem dX5_number_62 : decode cX5_number 62 = .ok (.isub, 1) := dk_100 (dk_at dksX5_number_2 15 rfl rfl)
theorem dX5_number_63 : decode cX5_number 63 = .ok (.goto 5, 3) := dk_167 0 5 (dk_at dksX5_number_2 16 rfl rfl)
theorem dX5_number_66 : decode cX5_number 66 = .ok (.iload 4, 2) := dk_21 4 (dk_at dksX5_number_2 19 rfl rfl)
theorem dX5_number_68 : decode cX5_number 68 = .ok (.istore 4, 2) := dk_54 4 (dk_at dksX5_number_2 21 rfl rfl)
theorem dX5_number_70 : decode cX5_number 70 = .ok (.aload_n 0, 1) := dk_42 (dk_at dksX5_number_2 23 rfl rfl)
theorem dX5_number_71 : decode cX5_number 71 = .ok (.dup, 1) := dk_89 (dk_at dksX5_number_3 0 rfl rfl)
theorem dX5_number_72 : decode cX5_number 72 = .ok (.getfield 23, 3) := dk_180 0 23 (dk_at dksX5_number_3 1 rfl rfl)
theorem dX5_number_75 : decode cX5_number 75 = .ok (.iconst 1, 1) := dk_4 (dk_at dksX5_number_3 4 rfl rfl)
theorem dX5_number_76 : decode cX5_number 76 = .ok (.iadd, 1) := dk_96 (dk_at dksX5_number_3 5 rfl rfl)
theorem dX5_number_77 : decode cX5_number 77 = .ok (.putfield 23, 3) := dk_181 0 23 (dk_at dksX5_number_3 6 rfl rfl)
theorem dX5_number_80 : decode cX5_number 80 = .ok (.goto (-47), 3) := dk_167 255 209 (dk_at dksX5_number_3 9 rfl rfl)
theorem dX5_number_83 : decode cX5_number 83 = .ok (.aload_n 0, 1) := dk_42 (dk_at dksX5_number_3 12 rfl rfl)
theorem dX5_number_84 : decode cX5_number 84 = .ok (.getfield 23, 3) := dk_180 0 23 (dk_at dksX5_number_3 13 rfl rfl)
theorem dX5_number_87 : decode cX5_number 87 = .ok (.iload_n 3, 1) := dk_29 (dk_at dksX5_number_3 16 rfl rfl)
theorem dX5_number_88 : decode cX5_number 88 = .ok (.isub, 1) := dk_100 (dk_at dksX5_number_3 17 rfl rfl)
theorem dX5_number_89 : decode cX5_number 89 = .ok (.iconst 5, 1) := dk_8 (dk_at dksX5_number_3 18 rfl rfl)
theorem dX5_number_90 : decode cX5_number 90 = .ok (.if_icmp .gt 16, 3) := dk_163 0 16 (dk_at dksX5_number_3 19 rfl rfl)
theorem dX5_number_93 : decode cX5_number 93 = .ok (.iload 4, 2) := dk_21 4 (dk_at dksX5_number_3 22 rfl rfl)
theorem dX5_number_95 : decode cX5_number 95 = .ok (.i2l, 1) := dk_133 (dk_at dksX5_number_4 0 rfl rfl)
theorem dX5_number_96 : decode cX5_number 96 = .ok (.iload_n 1, 1) := dk_27 (dk_at dksX5_number_4 1 rfl rfl)
theorem dX5_number_97 : decode cX5_number 97 = .ok (.i2l, 1) := dk_133 (dk_at dksX5_number_4 2 rfl rfl)
theorem dX5_number_98 : decode cX5_number 98 = .ok (.iload_n 2, 1) := dk_28 (dk_at dksX5_number_4 3 rfl rfl)
theorem dX5_number_99 : decode cX5_number 99 = .ok (.i2l, 1) := dk_133 (dk_at dksX5_number_4 4 rfl rfl)
theorem dX5_number_100 : decode cX5_number 100 = .ok (.invokestatic 41, 3) := dk_184 0 41 (dk_at dksX5_number_4 5 rfl rfl)
theorem dX5_number_103 : decode cX5_number 103 = .ok (.ifCond .ne 13, 3) := dk_154 0 13 (dk_at dksX5_number_4 8 rfl rfl)
theorem dX5_number_106 : decode cX5_number 106 = .ok (.aload_n 0, 1) := dk_42 (dk_at dksX5_number_4 11 rfl rfl)
theorem dX5_number_107 : decode cX5_number 107 = .ok (.getfield 3, 3) := dk_180 0 3 (dk_at dksX5_number_4 12 rfl rfl)
theorem dX5_number_110 : decode cX5_number 110 = .ok (.iconst 1, 1) := dk_4 (dk_at dksX5_number_4 15 rfl rfl)
theorem dX5_number_111 : decode cX5_number 111 = .ok (.iload_n 3, 1) := dk_29 (dk_at dksX5_number_4 16 rfl rfl)
theorem dX5_number_112 : decode cX5_number 112 = .ok (.invokevirtual 69, 3) := dk_182 0 69 (dk_at dksX5_number_4 17 rfl rfl)
theorem dX5_number_115 : decode cX5_number 115 = .ok (.athrow, 1) := dk_191 (dk_at dksX5_number_4 20 rfl rfl)
theorem dX5_number_116 : decode cX5_number 116 = .ok (.iload 4, 2) := dk_21 4 (dk_at dksX5_number_4 21 rfl rfl)
theorem dX5_number_118 : decode cX5_number 118 = .ok (.ireturn, 1) := dk_172 (dk_at dksX5_number_4 23 rfl rfl)
abbrev cX5_isDigit : ByteArray := prog_11_method_4_code
def yX5_isDigit : MethodName := ⟨RX5, "isDigit", "()Z"⟩
def dkwX5_isDigit_0 : List UInt8 := [42, 182, 0, 33, 133, 20, 0, 37, 20, 0, 39, 184, 0, 41, 172]
abbrev dktX5_isDigit_0 : List UInt8 := dkwX5_isDigit_0 ++ []
theorem dksX5_isDigit_0 : cX5_isDigit.data.toList.drop 0 = dktX5_isDigit_0 := by decide +kernel
theorem dX5_isDigit_0 : decode cX5_isDigit 0 = .ok (.aload_n 0, 1) := dk_42 (dk_at dksX5_isDigit_0 0 rfl rfl)
theorem dX5_isDigit_1 : decode cX5_isDigit 1 = .ok (.invokevirtual 33, 3) := dk_182 0 33 (dk_at dksX5_isDigit_0 1 rfl rfl)
theorem dX5_isDigit_4 : decode cX5_isDigit 4 = .ok (.i2l, 1) := dk_133 (dk_at dksX5_isDigit_0 4 rfl rfl)
theorem dX5_isDigit_5 : decode cX5_isDigit 5 = .ok (.ldc2_w 37, 3) := dk_20 0 37 (dk_at dksX5_isDigit_0 5 rfl rfl)
theorem dX5_isDigit_8 : decode cX5_isDigit 8 = .ok (.ldc2_w 39, 3) := dk_20 0 39 (dk_at dksX5_isDigit_0 8 rfl rfl)
theorem dX5_isDigit_11 : decode cX5_isDigit 11 = .ok (.invokestatic 41, 3) := dk_184 0 41 (dk_at dksX5_isDigit_0 11 rfl rfl)
theorem dX5_isDigit_14 : decode cX5_isDigit 14 = .ok (.ireturn, 1) := dk_172 (dk_at dksX5_isDigit_0 14 rfl rfl)
abbrev cX5_one : ByteArray := prog_11_method_17_code
def yX5_one : MethodName := ⟨RX5, "one", "(LOutwardDoors$Castle;)I"⟩
def dkwX5_one_0 : List UInt8 := [42, 3, 43, 180, 0, 150, 4, 100, 182, 0, 82, 172]
abbrev dktX5_one_0 : List UInt8 := dkwX5_one_0 ++ []
theorem dksX5_one_0 : cX5_one.data.toList.drop 0 = dktX5_one_0 := by decide +kernel
theorem dX5_one_0 : decode cX5_one 0 = .ok (.aload_n 0, 1) := dk_42 (dk_at dksX5_one_0 0 rfl rfl)
theorem dX5_one_1 : decode cX5_one 1 = .ok (.iconst 0, 1) := dk_3 (dk_at dksX5_one_0 1 rfl rfl)
theorem dX5_one_2 : decode cX5_one 2 = .ok (.aload_n 1, 1) := dk_43 (dk_at dksX5_one_0 2 rfl rfl)
theorem dX5_one_3 : decode cX5_one 3 = .ok (.getfield 150, 3) := dk_180 0 150 (dk_at dksX5_one_0 3 rfl rfl)
theorem dX5_one_6 : decode cX5_one 6 = .ok (.iconst 1, 1) := dk_4 (dk_at dksX5_one_0 6 rfl rfl)
theorem dX5_one_7 : decode cX5_one 7 = .ok (.isub, 1) := dk_100 (dk_at dksX5_one_0 7 rfl rfl)
theorem dX5_one_8 : decode cX5_one 8 = .ok (.invokevirtual 82, 3) := dk_182 0 82 (dk_at dksX5_one_0 8 rfl rfl)
theorem dX5_one_11 : decode cX5_one 11 = .ok (.ireturn, 1) := dk_172 (dk_at dksX5_one_0 11 rfl rfl)
abbrev cX5_door : ByteArray := prog_11_method_18_code
def yX5_door : MethodName := ⟨RX5, "door", "(LOutwardDoors$Castle;Z)V"⟩
def dkwX5_door_2 : List UInt8 := [182, 0, 69, 191, 43, 180, 0, 163, 187, 0, 167, 89, 29, 21, 5, 28, 183, 0, 169, 182, 0, 172, 87, 177]
abbrev dktX5_door_2 : List UInt8 := dkwX5_door_2 ++ []
def dkwX5_door_1 : List UInt8 := [29, 21, 5, 159, 0, 13, 43, 29, 21, 5, 182, 0, 159, 153, 0, 14, 42, 180, 0, 3, 4, 21, 4]
abbrev dktX5_door_1 : List UInt8 := dkwX5_door_1 ++ dktX5_door_2
def dkwX5_door_0 : List UInt8 := [42, 43, 182, 0, 155, 62, 42, 182, 0, 45, 87, 42, 180, 0, 23, 54, 4, 42, 43, 182, 0, 155, 54, 5]
abbrev dktX5_door_0 : List UInt8 := dkwX5_door_0 ++ dktX5_door_1
theorem dksX5_door_0 : cX5_door.data.toList.drop 0 = dktX5_door_0 := by decide +kernel
theorem dksX5_door_1 : cX5_door.data.toList.drop 24 = dktX5_door_1 := dk_seg dksX5_door_0 24 rfl rfl
theorem dksX5_door_2 : cX5_door.data.toList.drop 47 = dktX5_door_2 := dk_seg dksX5_door_1 23 rfl rfl
theorem dX5_door_0 : decode cX5_door 0 = .ok (.aload_n 0, 1) := dk_42 (dk_at dksX5_door_0 0 rfl rfl)
theorem dX5_door_1 : decode cX5_door 1 = .ok (.aload_n 1, 1) := dk_43 (dk_at dksX5_door_0 1 rfl rfl)
theorem dX5_door_2 : decode cX5_door 2 = .ok (.invokevirtual 155, 3) := dk_182 0 155 (dk_at dksX5_door_0 2 rfl rfl)
theorem dX5_door_5 : decode cX5_door 5 = .ok (.istore_n 3, 1) := dk_62 (dk_at dksX5_door_0 5 rfl rfl)
theorem dX5_door_6 : decode cX5_door 6 = .ok (.aload_n 0, 1) := dk_42 (dk_at dksX5_door_0 6 rfl rfl)
theorem dX5_door_7 : decode cX5_door 7 = .ok (.invokevirtual 45, 3) := dk_182 0 45 (dk_at dksX5_door_0 7 rfl rfl)
theorem dX5_door_10 : decode cX5_door 10 = .ok (.pop, 1) := dk_87 (dk_at dksX5_door_0 10 rfl rfl)
theorem dX5_door_11 : decode cX5_door 11 = .ok (.aload_n 0, 1) := dk_42 (dk_at dksX5_door_0 11 rfl rfl)
theorem dX5_door_12 : decode cX5_door 12 = .ok (.getfield 23, 3) := dk_180 0 23 (dk_at dksX5_door_0 12 rfl rfl)
theorem dX5_door_15 : decode cX5_door 15 = .ok (.istore 4, 2) := dk_54 4 (dk_at dksX5_door_0 15 rfl rfl)
theorem dX5_door_17 : decode cX5_door 17 = .ok (.aload_n 0, 1) := dk_42 (dk_at dksX5_door_0 17 rfl rfl)
theorem dX5_door_18 : decode cX5_door 18 = .ok (.aload_n 1, 1) := dk_43 (dk_at dksX5_door_0 18 rfl rfl)
theorem dX5_door_19 : decode cX5_door 19 = .ok (.invokevirtual 155, 3) := dk_182 0 155 (dk_at dksX5_door_0 19 rfl rfl)
theorem dX5_door_22 : decode cX5_door 22 = .ok (.istore 5, 2) := dk_54 5 (dk_at dksX5_door_0 22 rfl rfl)
theorem dX5_door_24 : decode cX5_door 24 = .ok (.iload_n 3, 1) := dk_29 (dk_at dksX5_door_1 0 rfl rfl)
theorem dX5_door_25 : decode cX5_door 25 = .ok (.iload 5, 2) := dk_21 5 (dk_at dksX5_door_1 1 rfl rfl)
theorem dX5_door_27 : decode cX5_door 27 = .ok (.if_icmp .eq 13, 3) := dk_159 0 13 (dk_at dksX5_door_1 3 rfl rfl)
theorem dX5_door_30 : decode cX5_door 30 = .ok (.aload_n 1, 1) := dk_43 (dk_at dksX5_door_1 6 rfl rfl)
theorem dX5_door_31 : decode cX5_door 31 = .ok (.iload_n 3, 1) := dk_29 (dk_at dksX5_door_1 7 rfl rfl)
theorem dX5_door_32 : decode cX5_door 32 = .ok (.iload 5, 2) := dk_21 5 (dk_at dksX5_door_1 8 rfl rfl)
theorem dX5_door_34 : decode cX5_door 34 = .ok (.invokevirtual 159, 3) := dk_182 0 159 (dk_at dksX5_door_1 10 rfl rfl)
theorem dX5_door_37 : decode cX5_door 37 = .ok (.ifCond .eq 14, 3) := dk_153 0 14 (dk_at dksX5_door_1 13 rfl rfl)
theorem dX5_door_40 : decode cX5_door 40 = .ok (.aload_n 0, 1) := dk_42 (dk_at dksX5_door_1 16 rfl rfl)
theorem dX5_door_41 : decode cX5_door 41 = .ok (.getfield 3, 3) := dk_180 0 3 (dk_at dksX5_door_1 17 rfl rfl)
theorem dX5_door_44 : decode cX5_door 44 = .ok (.iconst 1, 1) := dk_4 (dk_at dksX5_door_1 20 rfl rfl)
theorem dX5_door_45 : decode cX5_door 45 = .ok (.iload 4, 2) := dk_21 4 (dk_at dksX5_door_1 21 rfl rfl)
theorem dX5_door_47 : decode cX5_door 47 = .ok (.invokevirtual 69, 3) := dk_182 0 69 (dk_at dksX5_door_2 0 rfl rfl)
theorem dX5_door_50 : decode cX5_door 50 = .ok (.athrow, 1) := dk_191 (dk_at dksX5_door_2 3 rfl rfl)
theorem dX5_door_51 : decode cX5_door 51 = .ok (.aload_n 1, 1) := dk_43 (dk_at dksX5_door_2 4 rfl rfl)
theorem dX5_door_52 : decode cX5_door 52 = .ok (.getfield 163, 3) := dk_180 0 163 (dk_at dksX5_door_2 5 rfl rfl)
theorem dX5_door_55 : decode cX5_door 55 = .ok (.new 167, 3) := dk_187 0 167 (dk_at dksX5_door_2 8 rfl rfl)
theorem dX5_door_58 : decode cX5_door 58 = .ok (.dup, 1) := dk_89 (dk_at dksX5_door_2 11 rfl rfl)
theorem dX5_door_59 : decode cX5_door 59 = .ok (.iload_n 3, 1) := dk_29 (dk_at dksX5_door_2 12 rfl rfl)
theorem dX5_door_60 : decode cX5_door 60 = .ok (.iload 5, 2) := dk_21 5 (dk_at dksX5_door_2 13 rfl rfl)
theorem dX5_door_62 : decode cX5_door 62 = .ok (.iload_n 2, 1) := dk_28 (dk_at dksX5_door_2 15 rfl rfl)
theorem dX5_door_63 : decode cX5_door 63 = .ok (.invokespecial 169, 3) := dk_183 0 169 (dk_at dksX5_door_2 16 rfl rfl)
theorem dX5_door_66 : decode cX5_door 66 = .ok (.invokevirtual 172, 3) := dk_182 0 172 (dk_at dksX5_door_2 19 rfl rfl)
theorem dX5_door_69 : decode cX5_door 69 = .ok (.pop, 1) := dk_87 (dk_at dksX5_door_2 22 rfl rfl)
theorem dX5_door_70 : decode cX5_door 70 = .ok (.return_, 1) := dk_177 (dk_at dksX5_door_2 23 rfl rfl)
abbrev cX5_night : ByteArray := prog_11_method_19_code
def yX5_night : MethodName := ⟨RX5, "night", "(LOutwardDoors$Castle;)V"⟩
def dkwX5_night_1 : List UInt8 := [177]
abbrev dktX5_night_1 : List UInt8 := dkwX5_night_1 ++ []
def dkwX5_night_0 : List UInt8 := [42, 3, 16, 23, 182, 0, 82, 61, 43, 42, 28, 16, 23, 182, 0, 82, 181, 0, 178, 43, 28, 181, 0, 181]
abbrev dktX5_night_0 : List UInt8 := dkwX5_night_0 ++ dktX5_night_1
theorem dksX5_night_0 : cX5_night.data.toList.drop 0 = dktX5_night_0 := by decide +kernel
theorem dksX5_night_1 : cX5_night.data.toList.drop 24 = dktX5_night_1 := dk_seg dksX5_night_0 24 rfl rfl
theorem dX5_night_0 : decode cX5_night 0 = .ok (.aload_n 0, 1) := dk_42 (dk_at dksX5_night_0 0 rfl rfl)
theorem dX5_night_1 : decode cX5_night 1 = .ok (.iconst 0, 1) := dk_3 (dk_at dksX5_night_0 1 rfl rfl)
theorem dX5_night_2 : decode cX5_night 2 = .ok (.bipush 23, 2) := dk_16 23 (dk_at dksX5_night_0 2 rfl rfl)
theorem dX5_night_4 : decode cX5_night 4 = .ok (.invokevirtual 82, 3) := dk_182 0 82 (dk_at dksX5_night_0 4 rfl rfl)
theorem dX5_night_7 : decode cX5_night 7 = .ok (.istore_n 2, 1) := dk_61 (dk_at dksX5_night_0 7 rfl rfl)
theorem dX5_night_8 : decode cX5_night 8 = .ok (.aload_n 1, 1) := dk_43 (dk_at dksX5_night_0 8 rfl rfl)
theorem dX5_night_9 : decode cX5_night 9 = .ok (.aload_n 0, 1) := dk_42 (dk_at dksX5_night_0 9 rfl rfl)
theorem dX5_night_10 : decode cX5_night 10 = .ok (.iload_n 2, 1) := dk_28 (dk_at dksX5_night_0 10 rfl rfl)
theorem dX5_night_11 : decode cX5_night 11 = .ok (.bipush 23, 2) := dk_16 23 (dk_at dksX5_night_0 11 rfl rfl)
theorem dX5_night_13 : decode cX5_night 13 = .ok (.invokevirtual 82, 3) := dk_182 0 82 (dk_at dksX5_night_0 13 rfl rfl)
theorem dX5_night_16 : decode cX5_night 16 = .ok (.putfield 178, 3) := dk_181 0 178 (dk_at dksX5_night_0 16 rfl rfl)
theorem dX5_night_19 : decode cX5_night 19 = .ok (.aload_n 1, 1) := dk_43 (dk_at dksX5_night_0 19 rfl rfl)
theorem dX5_night_20 : decode cX5_night 20 = .ok (.iload_n 2, 1) := dk_28 (dk_at dksX5_night_0 20 rfl rfl)
theorem dX5_night_21 : decode cX5_night 21 = .ok (.putfield 181, 3) := dk_181 0 181 (dk_at dksX5_night_0 21 rfl rfl)
theorem dX5_night_24 : decode cX5_night 24 = .ok (.return_, 1) := dk_177 (dk_at dksX5_night_1 0 rfl rfl)
abbrev cX5_person : ByteArray := prog_11_method_20_code
def yX5_person : MethodName := ⟨RX5, "person", "(LOutwardDoors$Castle;)V"⟩
def dkwX5_person_1 : List UInt8 := [16, 50, 182, 0, 82, 183, 0, 189, 182, 0, 172, 87, 177]
abbrev dktX5_person_1 : List UInt8 := dkwX5_person_1 ++ []
def dkwX5_person_0 : List UInt8 := [42, 43, 182, 0, 155, 61, 42, 43, 182, 0, 155, 62, 43, 180, 0, 184, 187, 0, 187, 89, 28, 29, 42, 3]
abbrev dktX5_person_0 : List UInt8 := dkwX5_person_0 ++ dktX5_person_1
theorem dksX5_person_0 : cX5_person.data.toList.drop 0 = dktX5_person_0 := by decide +kernel
theorem dksX5_person_1 : cX5_person.data.toList.drop 24 = dktX5_person_1 := dk_seg dksX5_person_0 24 rfl rfl
theorem dX5_person_0 : decode cX5_person 0 = .ok (.aload_n 0, 1) := dk_42 (dk_at dksX5_person_0 0 rfl rfl)
theorem dX5_person_1 : decode cX5_person 1 = .ok (.aload_n 1, 1) := dk_43 (dk_at dksX5_person_0 1 rfl rfl)
theorem dX5_person_2 : decode cX5_person 2 = .ok (.invokevirtual 155, 3) := dk_182 0 155 (dk_at dksX5_person_0 2 rfl rfl)
theorem dX5_person_5 : decode cX5_person 5 = .ok (.istore_n 2, 1) := dk_61 (dk_at dksX5_person_0 5 rfl rfl)
theorem dX5_person_6 : decode cX5_person 6 = .ok (.aload_n 0, 1) := dk_42 (dk_at dksX5_person_0 6 rfl rfl)
theorem dX5_person_7 : decode cX5_person 7 = .ok (.aload_n 1, 1) := dk_43 (dk_at dksX5_person_0 7 rfl rfl)
theorem dX5_person_8 : decode cX5_person 8 = .ok (.invokevirtual 155, 3) := dk_182 0 155 (dk_at dksX5_person_0 8 rfl rfl)
theorem dX5_person_11 : decode cX5_person 11 = .ok (.istore_n 3, 1) := dk_62 (dk_at dksX5_person_0 11 rfl rfl)
theorem dX5_person_12 : decode cX5_person 12 = .ok (.aload_n 1, 1) := dk_43 (dk_at dksX5_person_0 12 rfl rfl)
theorem dX5_person_13 : decode cX5_person 13 = .ok (.getfield 184, 3) := dk_180 0 184 (dk_at dksX5_person_0 13 rfl rfl)
theorem dX5_person_16 : decode cX5_person 16 = .ok (.new 187, 3) := dk_187 0 187 (dk_at dksX5_person_0 16 rfl rfl)
theorem dX5_person_19 : decode cX5_person 19 = .ok (.dup, 1) := dk_89 (dk_at dksX5_person_0 19 rfl rfl)
theorem dX5_person_20 : decode cX5_person 20 = .ok (.iload_n 2, 1) := dk_28 (dk_at dksX5_person_0 20 rfl rfl)
theorem dX5_person_21 : decode cX5_person 21 = .ok (.iload_n 3, 1) := dk_29 (dk_at dksX5_person_0 21 rfl rfl)
theorem dX5_person_22 : decode cX5_person 22 = .ok (.aload_n 0, 1) := dk_42 (dk_at dksX5_person_0 22 rfl rfl)
theorem dX5_person_23 : decode cX5_person 23 = .ok (.iconst 0, 1) := dk_3 (dk_at dksX5_person_0 23 rfl rfl)
theorem dX5_person_24 : decode cX5_person 24 = .ok (.bipush 50, 2) := dk_16 50 (dk_at dksX5_person_1 0 rfl rfl)
theorem dX5_person_26 : decode cX5_person 26 = .ok (.invokevirtual 82, 3) := dk_182 0 82 (dk_at dksX5_person_1 2 rfl rfl)
theorem dX5_person_29 : decode cX5_person 29 = .ok (.invokespecial 189, 3) := dk_183 0 189 (dk_at dksX5_person_1 5 rfl rfl)
theorem dX5_person_32 : decode cX5_person 32 = .ok (.invokevirtual 172, 3) := dk_182 0 172 (dk_at dksX5_person_1 8 rfl rfl)
theorem dX5_person_35 : decode cX5_person 35 = .ok (.pop, 1) := dk_87 (dk_at dksX5_person_1 11 rfl rfl)
theorem dX5_person_36 : decode cX5_person 36 = .ok (.return_, 1) := dk_177 (dk_at dksX5_person_1 12 rfl rfl)
abbrev cX5_goesOn : ByteArray := prog_11_method_23_code
def yX5_goesOn : MethodName := ⟨RX5, "goesOn", "()Z"⟩
def dkwX5_goesOn_1 : List UInt8 := [180, 0, 23, 182, 0, 69, 191, 42, 89, 180, 0, 23, 4, 96, 181, 0, 23, 4, 172]
abbrev dktX5_goesOn_1 : List UInt8 := dkwX5_goesOn_1 ++ []
def dkwX5_goesOn_0 : List UInt8 := [42, 182, 0, 45, 60, 27, 2, 160, 0, 5, 3, 172, 27, 16, 59, 159, 0, 16, 42, 180, 0, 3, 3, 42]
abbrev dktX5_goesOn_0 : List UInt8 := dkwX5_goesOn_0 ++ dktX5_goesOn_1
theorem dksX5_goesOn_0 : cX5_goesOn.data.toList.drop 0 = dktX5_goesOn_0 := by decide +kernel
theorem dksX5_goesOn_1 : cX5_goesOn.data.toList.drop 24 = dktX5_goesOn_1 := dk_seg dksX5_goesOn_0 24 rfl rfl
theorem dX5_goesOn_0 : decode cX5_goesOn 0 = .ok (.aload_n 0, 1) := dk_42 (dk_at dksX5_goesOn_0 0 rfl rfl)
theorem dX5_goesOn_1 : decode cX5_goesOn 1 = .ok (.invokevirtual 45, 3) := dk_182 0 45 (dk_at dksX5_goesOn_0 1 rfl rfl)
theorem dX5_goesOn_4 : decode cX5_goesOn 4 = .ok (.istore_n 1, 1) := dk_60 (dk_at dksX5_goesOn_0 4 rfl rfl)
theorem dX5_goesOn_5 : decode cX5_goesOn 5 = .ok (.iload_n 1, 1) := dk_27 (dk_at dksX5_goesOn_0 5 rfl rfl)
theorem dX5_goesOn_6 : decode cX5_goesOn 6 = .ok (.iconst (-1), 1) := dk_2 (dk_at dksX5_goesOn_0 6 rfl rfl)
theorem dX5_goesOn_7 : decode cX5_goesOn 7 = .ok (.if_icmp .ne 5, 3) := dk_160 0 5 (dk_at dksX5_goesOn_0 7 rfl rfl)
theorem dX5_goesOn_10 : decode cX5_goesOn 10 = .ok (.iconst 0, 1) := dk_3 (dk_at dksX5_goesOn_0 10 rfl rfl)
theorem dX5_goesOn_11 : decode cX5_goesOn 11 = .ok (.ireturn, 1) := dk_172 (dk_at dksX5_goesOn_0 11 rfl rfl)
theorem dX5_goesOn_12 : decode cX5_goesOn 12 = .ok (.iload_n 1, 1) := dk_27 (dk_at dksX5_goesOn_0 12 rfl rfl)
theorem dX5_goesOn_13 : decode cX5_goesOn 13 = .ok (.bipush 59, 2) := dk_16 59 (dk_at dksX5_goesOn_0 13 rfl rfl)
theorem dX5_goesOn_15 : decode cX5_goesOn 15 = .ok (.if_icmp .eq 16, 3) := dk_159 0 16 (dk_at dksX5_goesOn_0 15 rfl rfl)
theorem dX5_goesOn_18 : decode cX5_goesOn 18 = .ok (.aload_n 0, 1) := dk_42 (dk_at dksX5_goesOn_0 18 rfl rfl)
theorem dX5_goesOn_19 : decode cX5_goesOn 19 = .ok (.getfield 3, 3) := dk_180 0 3 (dk_at dksX5_goesOn_0 19 rfl rfl)
theorem dX5_goesOn_22 : decode cX5_goesOn 22 = .ok (.iconst 0, 1) := dk_3 (dk_at dksX5_goesOn_0 22 rfl rfl)
theorem dX5_goesOn_23 : decode cX5_goesOn 23 = .ok (.aload_n 0, 1) := dk_42 (dk_at dksX5_goesOn_0 23 rfl rfl)
theorem dX5_goesOn_24 : decode cX5_goesOn 24 = .ok (.getfield 23, 3) := dk_180 0 23 (dk_at dksX5_goesOn_1 0 rfl rfl)
theorem dX5_goesOn_27 : decode cX5_goesOn 27 = .ok (.invokevirtual 69, 3) := dk_182 0 69 (dk_at dksX5_goesOn_1 3 rfl rfl)
theorem dX5_goesOn_30 : decode cX5_goesOn 30 = .ok (.athrow, 1) := dk_191 (dk_at dksX5_goesOn_1 6 rfl rfl)
theorem dX5_goesOn_31 : decode cX5_goesOn 31 = .ok (.aload_n 0, 1) := dk_42 (dk_at dksX5_goesOn_1 7 rfl rfl)
theorem dX5_goesOn_32 : decode cX5_goesOn 32 = .ok (.dup, 1) := dk_89 (dk_at dksX5_goesOn_1 8 rfl rfl)
theorem dX5_goesOn_33 : decode cX5_goesOn 33 = .ok (.getfield 23, 3) := dk_180 0 23 (dk_at dksX5_goesOn_1 9 rfl rfl)
theorem dX5_goesOn_36 : decode cX5_goesOn 36 = .ok (.iconst 1, 1) := dk_4 (dk_at dksX5_goesOn_1 12 rfl rfl)
theorem dX5_goesOn_37 : decode cX5_goesOn 37 = .ok (.iadd, 1) := dk_96 (dk_at dksX5_goesOn_1 13 rfl rfl)
theorem dX5_goesOn_38 : decode cX5_goesOn 38 = .ok (.putfield 23, 3) := dk_181 0 23 (dk_at dksX5_goesOn_1 14 rfl rfl)
theorem dX5_goesOn_41 : decode cX5_goesOn 41 = .ok (.iconst 1, 1) := dk_4 (dk_at dksX5_goesOn_1 17 rfl rfl)
theorem dX5_goesOn_42 : decode cX5_goesOn 42 = .ok (.ireturn, 1) := dk_172 (dk_at dksX5_goesOn_1 18 rfl rfl)
abbrev cX5_rule : ByteArray := prog_11_method_25_code
def yX5_rule : MethodName := ⟨RX5, "rule", "()I"⟩
def dkwX5_rule_2 : List UInt8 := [180, 0, 250, 182, 0, 192, 4, 100, 172]
abbrev dktX5_rule_2 : List UInt8 := dkwX5_rule_2 ++ []
def dkwX5_rule_1 : List UInt8 := [182, 0, 247, 167, 255, 244, 42, 180, 0, 3, 180, 0, 250, 43, 182, 0, 172, 87, 42, 180, 0, 3]
abbrev dktX5_rule_1 : List UInt8 := dkwX5_rule_1 ++ dktX5_rule_2
def dkwX5_rule_0 : List UInt8 := [187, 0, 228, 89, 183, 0, 246, 76, 42, 43, 182, 0, 247, 42, 182, 0, 243, 153, 0, 11, 42, 43]
abbrev dktX5_rule_0 : List UInt8 := dkwX5_rule_0 ++ dktX5_rule_1
theorem dksX5_rule_0 : cX5_rule.data.toList.drop 0 = dktX5_rule_0 := by decide +kernel
theorem dksX5_rule_1 : cX5_rule.data.toList.drop 22 = dktX5_rule_1 := dk_seg dksX5_rule_0 22 rfl rfl
theorem dksX5_rule_2 : cX5_rule.data.toList.drop 44 = dktX5_rule_2 := dk_seg dksX5_rule_1 22 rfl rfl
theorem dX5_rule_0 : decode cX5_rule 0 = .ok (.new 228, 3) := dk_187 0 228 (dk_at dksX5_rule_0 0 rfl rfl)
theorem dX5_rule_3 : decode cX5_rule 3 = .ok (.dup, 1) := dk_89 (dk_at dksX5_rule_0 3 rfl rfl)
theorem dX5_rule_4 : decode cX5_rule 4 = .ok (.invokespecial 246, 3) := dk_183 0 246 (dk_at dksX5_rule_0 4 rfl rfl)
theorem dX5_rule_7 : decode cX5_rule 7 = .ok (.astore_n 1, 1) := dk_76 (dk_at dksX5_rule_0 7 rfl rfl)
theorem dX5_rule_8 : decode cX5_rule 8 = .ok (.aload_n 0, 1) := dk_42 (dk_at dksX5_rule_0 8 rfl rfl)
theorem dX5_rule_9 : decode cX5_rule 9 = .ok (.aload_n 1, 1) := dk_43 (dk_at dksX5_rule_0 9 rfl rfl)
theorem dX5_rule_10 : decode cX5_rule 10 = .ok (.invokevirtual 247, 3) := dk_182 0 247 (dk_at dksX5_rule_0 10 rfl rfl)
theorem dX5_rule_13 : decode cX5_rule 13 = .ok (.aload_n 0, 1) := dk_42 (dk_at dksX5_rule_0 13 rfl rfl)
theorem dX5_rule_14 : decode cX5_rule 14 = .ok (.invokevirtual 243, 3) := dk_182 0 243 (dk_at dksX5_rule_0 14 rfl rfl)
theorem dX5_rule_17 : decode cX5_rule 17 = .ok (.ifCond .eq 11, 3) := dk_153 0 11 (dk_at dksX5_rule_0 17 rfl rfl)
theorem dX5_rule_20 : decode cX5_rule 20 = .ok (.aload_n 0, 1) := dk_42 (dk_at dksX5_rule_0 20 rfl rfl)
theorem dX5_rule_21 : decode cX5_rule 21 = .ok (.aload_n 1, 1) := dk_43 (dk_at dksX5_rule_0 21 rfl rfl)
theorem dX5_rule_22 : decode cX5_rule 22 = .ok (.invokevirtual 247, 3) := dk_182 0 247 (dk_at dksX5_rule_1 0 rfl rfl)
theorem dX5_rule_25 : decode cX5_rule 25 = .ok (.goto (-12), 3) := dk_167 255 244 (dk_at dksX5_rule_1 3 rfl rfl)
theorem dX5_rule_28 : decode cX5_rule 28 = .ok (.aload_n 0, 1) := dk_42 (dk_at dksX5_rule_1 6 rfl rfl)
theorem dX5_rule_29 : decode cX5_rule 29 = .ok (.getfield 3, 3) := dk_180 0 3 (dk_at dksX5_rule_1 7 rfl rfl)
theorem dX5_rule_32 : decode cX5_rule 32 = .ok (.getfield 250, 3) := dk_180 0 250 (dk_at dksX5_rule_1 10 rfl rfl)
theorem dX5_rule_35 : decode cX5_rule 35 = .ok (.aload_n 1, 1) := dk_43 (dk_at dksX5_rule_1 13 rfl rfl)
theorem dX5_rule_36 : decode cX5_rule 36 = .ok (.invokevirtual 172, 3) := dk_182 0 172 (dk_at dksX5_rule_1 14 rfl rfl)
theorem dX5_rule_39 : decode cX5_rule 39 = .ok (.pop, 1) := dk_87 (dk_at dksX5_rule_1 17 rfl rfl)
theorem dX5_rule_40 : decode cX5_rule 40 = .ok (.aload_n 0, 1) := dk_42 (dk_at dksX5_rule_1 18 rfl rfl)
theorem dX5_rule_41 : decode cX5_rule 41 = .ok (.getfield 3, 3) := dk_180 0 3 (dk_at dksX5_rule_1 19 rfl rfl)
theorem dX5_rule_44 : decode cX5_rule 44 = .ok (.getfield 250, 3) := dk_180 0 250 (dk_at dksX5_rule_2 0 rfl rfl)
theorem dX5_rule_47 : decode cX5_rule 47 = .ok (.invokevirtual 192, 3) := dk_182 0 192 (dk_at dksX5_rule_2 3 rfl rfl)
theorem dX5_rule_50 : decode cX5_rule 50 = .ok (.iconst 1, 1) := dk_4 (dk_at dksX5_rule_2 6 rfl rfl)
theorem dX5_rule_51 : decode cX5_rule 51 = .ok (.isub, 1) := dk_100 (dk_at dksX5_rule_2 7 rfl rfl)
theorem dX5_rule_52 : decode cX5_rule 52 = .ok (.ireturn, 1) := dk_172 (dk_at dksX5_rule_2 8 rfl rfl)
abbrev cX5_clause_2 : ByteArray := prog_11_method_22_code
def yX5_clause_2 : MethodName := ⟨RX5, "clause", "(LOutwardDoors$Rule;)V"⟩
def dkwX5_clause_2_2 : List UInt8 := [182, 0, 121, 167, 0, 4, 1, 183, 0, 236, 182, 0, 172, 87, 177]
abbrev dktX5_clause_2_2 : List UInt8 := dkwX5_clause_2_2 ++ []
def dkwX5_clause_2_1 : List UInt8 := [182, 0, 124, 77, 43, 180, 0, 227, 187, 0, 232, 89, 44, 42, 18, 234, 182, 0, 134, 153, 0, 10, 42]
abbrev dktX5_clause_2_1 : List UInt8 := dkwX5_clause_2_1 ++ dktX5_clause_2_2
def dkwX5_clause_2_0 : List UInt8 := [42, 18, 225, 4, 182, 0, 197, 154, 0, 16, 42, 180, 0, 3, 3, 42, 180, 0, 23, 182, 0, 69, 191, 42]
abbrev dktX5_clause_2_0 : List UInt8 := dkwX5_clause_2_0 ++ dktX5_clause_2_1
theorem dksX5_clause_2_0 : cX5_clause_2.data.toList.drop 0 = dktX5_clause_2_0 := by decide +kernel
theorem dksX5_clause_2_1 : cX5_clause_2.data.toList.drop 24 = dktX5_clause_2_1 := dk_seg dksX5_clause_2_0 24 rfl rfl
theorem dksX5_clause_2_2 : cX5_clause_2.data.toList.drop 47 = dktX5_clause_2_2 := dk_seg dksX5_clause_2_1 23 rfl rfl
theorem dX5_clause_2_0 : decode cX5_clause_2 0 = .ok (.aload_n 0, 1) := dk_42 (dk_at dksX5_clause_2_0 0 rfl rfl)
theorem dX5_clause_2_1 : decode cX5_clause_2 1 = .ok (.ldc 225, 2) := dk_18 225 (dk_at dksX5_clause_2_0 1 rfl rfl)
theorem dX5_clause_2_3 : decode cX5_clause_2 3 = .ok (.iconst 1, 1) := dk_4 (dk_at dksX5_clause_2_0 3 rfl rfl)
theorem dX5_clause_2_4 : decode cX5_clause_2 4 = .ok (.invokevirtual 197, 3) := dk_182 0 197 (dk_at dksX5_clause_2_0 4 rfl rfl)
theorem dX5_clause_2_7 : decode cX5_clause_2 7 = .ok (.ifCond .ne 16, 3) := dk_154 0 16 (dk_at dksX5_clause_2_0 7 rfl rfl)
theorem dX5_clause_2_10 : decode cX5_clause_2 10 = .ok (.aload_n 0, 1) := dk_42 (dk_at dksX5_clause_2_0 10 rfl rfl)
theorem dX5_clause_2_11 : decode cX5_clause_2 11 = .ok (.getfield 3, 3) := dk_180 0 3 (dk_at dksX5_clause_2_0 11 rfl rfl)
theorem dX5_clause_2_14 : decode cX5_clause_2 14 = .ok (.iconst 0, 1) := dk_3 (dk_at dksX5_clause_2_0 14 rfl rfl)
theorem dX5_clause_2_15 : decode cX5_clause_2 15 = .ok (.aload_n 0, 1) := dk_42 (dk_at dksX5_clause_2_0 15 rfl rfl)
theorem dX5_clause_2_16 : decode cX5_clause_2 16 = .ok (.getfield 23, 3) := dk_180 0 23 (dk_at dksX5_clause_2_0 16 rfl rfl)
theorem dX5_clause_2_19 : decode cX5_clause_2 19 = .ok (.invokevirtual 69, 3) := dk_182 0 69 (dk_at dksX5_clause_2_0 19 rfl rfl)
theorem dX5_clause_2_22 : decode cX5_clause_2 22 = .ok (.athrow, 1) := dk_191 (dk_at dksX5_clause_2_0 22 rfl rfl)
theorem dX5_clause_2_23 : decode cX5_clause_2 23 = .ok (.aload_n 0, 1) := dk_42 (dk_at dksX5_clause_2_0 23 rfl rfl)
theorem dX5_clause_2_24 : decode cX5_clause_2 24 = .ok (.invokevirtual 124, 3) := dk_182 0 124 (dk_at dksX5_clause_2_1 0 rfl rfl)
theorem dX5_clause_2_27 : decode cX5_clause_2 27 = .ok (.astore_n 2, 1) := dk_77 (dk_at dksX5_clause_2_1 3 rfl rfl)
theorem dX5_clause_2_28 : decode cX5_clause_2 28 = .ok (.aload_n 1, 1) := dk_43 (dk_at dksX5_clause_2_1 4 rfl rfl)
theorem dX5_clause_2_29 : decode cX5_clause_2 29 = .ok (.getfield 227, 3) := dk_180 0 227 (dk_at dksX5_clause_2_1 5 rfl rfl)
theorem dX5_clause_2_32 : decode cX5_clause_2 32 = .ok (.new 232, 3) := dk_187 0 232 (dk_at dksX5_clause_2_1 8 rfl rfl)
theorem dX5_clause_2_35 : decode cX5_clause_2 35 = .ok (.dup, 1) := dk_89 (dk_at dksX5_clause_2_1 11 rfl rfl)
theorem dX5_clause_2_36 : decode cX5_clause_2 36 = .ok (.aload_n 2, 1) := dk_44 (dk_at dksX5_clause_2_1 12 rfl rfl)
theorem dX5_clause_2_37 : decode cX5_clause_2 37 = .ok (.aload_n 0, 1) := dk_42 (dk_at dksX5_clause_2_1 13 rfl rfl)
theorem dX5_clause_2_38 : decode cX5_clause_2 38 = .ok (.ldc 234, 2) := dk_18 234 (dk_at dksX5_clause_2_1 14 rfl rfl)
theorem dX5_clause_2_40 : decode cX5_clause_2 40 = .ok (.invokevirtual 134, 3) := dk_182 0 134 (dk_at dksX5_clause_2_1 16 rfl rfl)
theorem dX5_clause_2_43 : decode cX5_clause_2 43 = .ok (.ifCond .eq 10, 3) := dk_153 0 10 (dk_at dksX5_clause_2_1 19 rfl rfl)
theorem dX5_clause_2_46 : decode cX5_clause_2 46 = .ok (.aload_n 0, 1) := dk_42 (dk_at dksX5_clause_2_1 22 rfl rfl)
theorem dX5_clause_2_47 : decode cX5_clause_2 47 = .ok (.invokevirtual 121, 3) := dk_182 0 121 (dk_at dksX5_clause_2_2 0 rfl rfl)
theorem dX5_clause_2_50 : decode cX5_clause_2 50 = .ok (.goto 4, 3) := dk_167 0 4 (dk_at dksX5_clause_2_2 3 rfl rfl)
theorem dX5_clause_2_53 : decode cX5_clause_2 53 = .ok (.aconst_null, 1) := dk_1 (dk_at dksX5_clause_2_2 6 rfl rfl)
theorem dX5_clause_2_54 : decode cX5_clause_2 54 = .ok (.invokespecial 236, 3) := dk_183 0 236 (dk_at dksX5_clause_2_2 7 rfl rfl)
theorem dX5_clause_2_57 : decode cX5_clause_2 57 = .ok (.invokevirtual 172, 3) := dk_182 0 172 (dk_at dksX5_clause_2_2 10 rfl rfl)
theorem dX5_clause_2_60 : decode cX5_clause_2 60 = .ok (.pop, 1) := dk_87 (dk_at dksX5_clause_2_2 13 rfl rfl)
theorem dX5_clause_2_61 : decode cX5_clause_2 61 = .ok (.return_, 1) := dk_177 (dk_at dksX5_clause_2_2 14 rfl rfl)
abbrev cX5_sum : ByteArray := prog_11_method_12_code
def yX5_sum : MethodName := ⟨RX5, "sum", "()LOutwardDoors$Value;"⟩
def dkwX5_sum_2 : List UInt8 := [183, 0, 101, 76, 167, 255, 209, 43, 176]
abbrev dktX5_sum_2 : List UInt8 := dkwX5_sum_2 ++ []
def dkwX5_sum_1 : List UInt8 := [182, 0, 33, 61, 42, 89, 180, 0, 23, 4, 96, 181, 0, 23, 187, 0, 99, 89, 43, 42, 182, 0, 104, 28]
abbrev dktX5_sum_1 : List UInt8 := dkwX5_sum_1 ++ dktX5_sum_2
def dkwX5_sum_0 : List UInt8 := [42, 182, 0, 104, 76, 42, 182, 0, 45, 16, 43, 159, 0, 12, 42, 182, 0, 33, 16, 45, 160, 0, 35, 42]
abbrev dktX5_sum_0 : List UInt8 := dkwX5_sum_0 ++ dktX5_sum_1
theorem dksX5_sum_0 : cX5_sum.data.toList.drop 0 = dktX5_sum_0 := by decide +kernel
theorem dksX5_sum_1 : cX5_sum.data.toList.drop 24 = dktX5_sum_1 := dk_seg dksX5_sum_0 24 rfl rfl
theorem dksX5_sum_2 : cX5_sum.data.toList.drop 48 = dktX5_sum_2 := dk_seg dksX5_sum_1 24 rfl rfl
theorem dX5_sum_0 : decode cX5_sum 0 = .ok (.aload_n 0, 1) := dk_42 (dk_at dksX5_sum_0 0 rfl rfl)
theorem dX5_sum_1 : decode cX5_sum 1 = .ok (.invokevirtual 104, 3) := dk_182 0 104 (dk_at dksX5_sum_0 1 rfl rfl)
theorem dX5_sum_4 : decode cX5_sum 4 = .ok (.astore_n 1, 1) := dk_76 (dk_at dksX5_sum_0 4 rfl rfl)
theorem dX5_sum_5 : decode cX5_sum 5 = .ok (.aload_n 0, 1) := dk_42 (dk_at dksX5_sum_0 5 rfl rfl)
theorem dX5_sum_6 : decode cX5_sum 6 = .ok (.invokevirtual 45, 3) := dk_182 0 45 (dk_at dksX5_sum_0 6 rfl rfl)
theorem dX5_sum_9 : decode cX5_sum 9 = .ok (.bipush 43, 2) := dk_16 43 (dk_at dksX5_sum_0 9 rfl rfl)
theorem dX5_sum_11 : decode cX5_sum 11 = .ok (.if_icmp .eq 12, 3) := dk_159 0 12 (dk_at dksX5_sum_0 11 rfl rfl)
theorem dX5_sum_14 : decode cX5_sum 14 = .ok (.aload_n 0, 1) := dk_42 (dk_at dksX5_sum_0 14 rfl rfl)
theorem dX5_sum_15 : decode cX5_sum 15 = .ok (.invokevirtual 33, 3) := dk_182 0 33 (dk_at dksX5_sum_0 15 rfl rfl)
theorem dX5_sum_18 : decode cX5_sum 18 = .ok (.bipush 45, 2) := dk_16 45 (dk_at dksX5_sum_0 18 rfl rfl)
theorem dX5_sum_20 : decode cX5_sum 20 = .ok (.if_icmp .ne 35, 3) := dk_160 0 35 (dk_at dksX5_sum_0 20 rfl rfl)
theorem dX5_sum_23 : decode cX5_sum 23 = .ok (.aload_n 0, 1) := dk_42 (dk_at dksX5_sum_0 23 rfl rfl)
theorem dX5_sum_24 : decode cX5_sum 24 = .ok (.invokevirtual 33, 3) := dk_182 0 33 (dk_at dksX5_sum_1 0 rfl rfl)
theorem dX5_sum_27 : decode cX5_sum 27 = .ok (.istore_n 2, 1) := dk_61 (dk_at dksX5_sum_1 3 rfl rfl)
theorem dX5_sum_28 : decode cX5_sum 28 = .ok (.aload_n 0, 1) := dk_42 (dk_at dksX5_sum_1 4 rfl rfl)
theorem dX5_sum_29 : decode cX5_sum 29 = .ok (.dup, 1) := dk_89 (dk_at dksX5_sum_1 5 rfl rfl)
theorem dX5_sum_30 : decode cX5_sum 30 = .ok (.getfield 23, 3) := dk_180 0 23 (dk_at dksX5_sum_1 6 rfl rfl)
theorem dX5_sum_33 : decode cX5_sum 33 = .ok (.iconst 1, 1) := dk_4 (dk_at dksX5_sum_1 9 rfl rfl)
theorem dX5_sum_34 : decode cX5_sum 34 = .ok (.iadd, 1) := dk_96 (dk_at dksX5_sum_1 10 rfl rfl)
theorem dX5_sum_35 : decode cX5_sum 35 = .ok (.putfield 23, 3) := dk_181 0 23 (dk_at dksX5_sum_1 11 rfl rfl)
theorem dX5_sum_38 : decode cX5_sum 38 = .ok (.new 99, 3) := dk_187 0 99 (dk_at dksX5_sum_1 14 rfl rfl)
theorem dX5_sum_41 : decode cX5_sum 41 = .ok (.dup, 1) := dk_89 (dk_at dksX5_sum_1 17 rfl rfl)
theorem dX5_sum_42 : decode cX5_sum 42 = .ok (.aload_n 1, 1) := dk_43 (dk_at dksX5_sum_1 18 rfl rfl)
theorem dX5_sum_43 : decode cX5_sum 43 = .ok (.aload_n 0, 1) := dk_42 (dk_at dksX5_sum_1 19 rfl rfl)
theorem dX5_sum_44 : decode cX5_sum 44 = .ok (.invokevirtual 104, 3) := dk_182 0 104 (dk_at dksX5_sum_1 20 rfl rfl)
theorem dX5_sum_47 : decode cX5_sum 47 = .ok (.iload_n 2, 1) := dk_28 (dk_at dksX5_sum_1 23 rfl rfl)
theorem dX5_sum_48 : decode cX5_sum 48 = .ok (.invokespecial 101, 3) := dk_183 0 101 (dk_at dksX5_sum_2 0 rfl rfl)
theorem dX5_sum_51 : decode cX5_sum 51 = .ok (.astore_n 1, 1) := dk_76 (dk_at dksX5_sum_2 3 rfl rfl)
theorem dX5_sum_52 : decode cX5_sum 52 = .ok (.goto (-47), 3) := dk_167 255 209 (dk_at dksX5_sum_2 4 rfl rfl)
theorem dX5_sum_55 : decode cX5_sum 55 = .ok (.aload_n 1, 1) := dk_43 (dk_at dksX5_sum_2 7 rfl rfl)
theorem dX5_sum_56 : decode cX5_sum 56 = .ok (.areturn, 1) := dk_176 (dk_at dksX5_sum_2 8 rfl rfl)
abbrev cX5_term : ByteArray := prog_11_method_11_code
def yX5_term : MethodName := ⟨RX5, "term", "()LOutwardDoors$Value;"⟩
def dkwX5_term_2 : List UInt8 := [187, 0, 99, 89, 43, 42, 182, 0, 95, 28, 183, 0, 101, 76, 167, 255, 200, 43, 176]
abbrev dktX5_term_2 : List UInt8 := dkwX5_term_2 ++ []
def dkwX5_term_1 : List UInt8 := [182, 0, 33, 16, 37, 160, 0, 35, 42, 182, 0, 33, 61, 42, 89, 180, 0, 23, 4, 96, 181, 0, 23]
abbrev dktX5_term_1 : List UInt8 := dkwX5_term_1 ++ dktX5_term_2
def dkwX5_term_0 : List UInt8 := [42, 182, 0, 95, 76, 42, 182, 0, 45, 16, 42, 159, 0, 21, 42, 182, 0, 33, 16, 47, 159, 0, 12, 42]
abbrev dktX5_term_0 : List UInt8 := dkwX5_term_0 ++ dktX5_term_1
theorem dksX5_term_0 : cX5_term.data.toList.drop 0 = dktX5_term_0 := by decide +kernel
theorem dksX5_term_1 : cX5_term.data.toList.drop 24 = dktX5_term_1 := dk_seg dksX5_term_0 24 rfl rfl
theorem dksX5_term_2 : cX5_term.data.toList.drop 47 = dktX5_term_2 := dk_seg dksX5_term_1 23 rfl rfl
theorem dX5_term_0 : decode cX5_term 0 = .ok (.aload_n 0, 1) := dk_42 (dk_at dksX5_term_0 0 rfl rfl)
theorem dX5_term_1 : decode cX5_term 1 = .ok (.invokevirtual 95, 3) := dk_182 0 95 (dk_at dksX5_term_0 1 rfl rfl)
theorem dX5_term_4 : decode cX5_term 4 = .ok (.astore_n 1, 1) := dk_76 (dk_at dksX5_term_0 4 rfl rfl)
theorem dX5_term_5 : decode cX5_term 5 = .ok (.aload_n 0, 1) := dk_42 (dk_at dksX5_term_0 5 rfl rfl)
theorem dX5_term_6 : decode cX5_term 6 = .ok (.invokevirtual 45, 3) := dk_182 0 45 (dk_at dksX5_term_0 6 rfl rfl)
theorem dX5_term_9 : decode cX5_term 9 = .ok (.bipush 42, 2) := dk_16 42 (dk_at dksX5_term_0 9 rfl rfl)
theorem dX5_term_11 : decode cX5_term 11 = .ok (.if_icmp .eq 21, 3) := dk_159 0 21 (dk_at dksX5_term_0 11 rfl rfl)
theorem dX5_term_14 : decode cX5_term 14 = .ok (.aload_n 0, 1) := dk_42 (dk_at dksX5_term_0 14 rfl rfl)
theorem dX5_term_15 : decode cX5_term 15 = .ok (.invokevirtual 33, 3) := dk_182 0 33 (dk_at dksX5_term_0 15 rfl rfl)
theorem dX5_term_18 : decode cX5_term 18 = .ok (.bipush 47, 2) := dk_16 47 (dk_at dksX5_term_0 18 rfl rfl)
theorem dX5_term_20 : decode cX5_term 20 = .ok (.if_icmp .eq 12, 3) := dk_159 0 12 (dk_at dksX5_term_0 20 rfl rfl)
theorem dX5_term_23 : decode cX5_term 23 = .ok (.aload_n 0, 1) := dk_42 (dk_at dksX5_term_0 23 rfl rfl)
theorem dX5_term_24 : decode cX5_term 24 = .ok (.invokevirtual 33, 3) := dk_182 0 33 (dk_at dksX5_term_1 0 rfl rfl)
theorem dX5_term_27 : decode cX5_term 27 = .ok (.bipush 37, 2) := dk_16 37 (dk_at dksX5_term_1 3 rfl rfl)
theorem dX5_term_29 : decode cX5_term 29 = .ok (.if_icmp .ne 35, 3) := dk_160 0 35 (dk_at dksX5_term_1 5 rfl rfl)
theorem dX5_term_32 : decode cX5_term 32 = .ok (.aload_n 0, 1) := dk_42 (dk_at dksX5_term_1 8 rfl rfl)
theorem dX5_term_33 : decode cX5_term 33 = .ok (.invokevirtual 33, 3) := dk_182 0 33 (dk_at dksX5_term_1 9 rfl rfl)
theorem dX5_term_36 : decode cX5_term 36 = .ok (.istore_n 2, 1) := dk_61 (dk_at dksX5_term_1 12 rfl rfl)
theorem dX5_term_37 : decode cX5_term 37 = .ok (.aload_n 0, 1) := dk_42 (dk_at dksX5_term_1 13 rfl rfl)
theorem dX5_term_38 : decode cX5_term 38 = .ok (.dup, 1) := dk_89 (dk_at dksX5_term_1 14 rfl rfl)
theorem dX5_term_39 : decode cX5_term 39 = .ok (.getfield 23, 3) := dk_180 0 23 (dk_at dksX5_term_1 15 rfl rfl)
theorem dX5_term_42 : decode cX5_term 42 = .ok (.iconst 1, 1) := dk_4 (dk_at dksX5_term_1 18 rfl rfl)
theorem dX5_term_43 : decode cX5_term 43 = .ok (.iadd, 1) := dk_96 (dk_at dksX5_term_1 19 rfl rfl)
theorem dX5_term_44 : decode cX5_term 44 = .ok (.putfield 23, 3) := dk_181 0 23 (dk_at dksX5_term_1 20 rfl rfl)
theorem dX5_term_47 : decode cX5_term 47 = .ok (.new 99, 3) := dk_187 0 99 (dk_at dksX5_term_2 0 rfl rfl)
theorem dX5_term_50 : decode cX5_term 50 = .ok (.dup, 1) := dk_89 (dk_at dksX5_term_2 3 rfl rfl)
theorem dX5_term_51 : decode cX5_term 51 = .ok (.aload_n 1, 1) := dk_43 (dk_at dksX5_term_2 4 rfl rfl)
theorem dX5_term_52 : decode cX5_term 52 = .ok (.aload_n 0, 1) := dk_42 (dk_at dksX5_term_2 5 rfl rfl)
theorem dX5_term_53 : decode cX5_term 53 = .ok (.invokevirtual 95, 3) := dk_182 0 95 (dk_at dksX5_term_2 6 rfl rfl)
theorem dX5_term_56 : decode cX5_term 56 = .ok (.iload_n 2, 1) := dk_28 (dk_at dksX5_term_2 9 rfl rfl)
theorem dX5_term_57 : decode cX5_term 57 = .ok (.invokespecial 101, 3) := dk_183 0 101 (dk_at dksX5_term_2 10 rfl rfl)
theorem dX5_term_60 : decode cX5_term 60 = .ok (.astore_n 1, 1) := dk_76 (dk_at dksX5_term_2 13 rfl rfl)
theorem dX5_term_61 : decode cX5_term 61 = .ok (.goto (-56), 3) := dk_167 255 200 (dk_at dksX5_term_2 14 rfl rfl)
theorem dX5_term_64 : decode cX5_term 64 = .ok (.aload_n 1, 1) := dk_43 (dk_at dksX5_term_2 17 rfl rfl)
theorem dX5_term_65 : decode cX5_term 65 = .ok (.areturn, 1) := dk_176 (dk_at dksX5_term_2 18 rfl rfl)
abbrev cX5_value : ByteArray := prog_11_method_10_code
def yX5_value : MethodName := ⟨RX5, "value", "()LOutwardDoors$Value;"⟩
def dkwX5_value_4 : List UInt8 := [183, 0, 94, 176, 132, 2, 1, 167, 255, 196, 42, 180, 0, 3, 3, 27, 182, 0, 69, 191]
abbrev dktX5_value_4 : List UInt8 := dkwX5_value_4 ++ []
def dkwX5_value_3 : List UInt8 := [42, 89, 180, 0, 23, 42, 180, 0, 15, 28, 50, 182, 0, 52, 96, 181, 0, 23, 187, 0, 92, 89, 28]
abbrev dktX5_value_3 : List UInt8 := dkwX5_value_3 ++ dktX5_value_4
def dkwX5_value_2 : List UInt8 := [162, 0, 57, 42, 42, 180, 0, 15, 28, 50, 182, 0, 61, 154, 0, 6, 167, 0, 35, 42, 27, 182, 0, 89]
abbrev dktX5_value_2 : List UInt8 := dkwX5_value_2 ++ dktX5_value_3
def dkwX5_value_1 : List UInt8 := [18, 81, 182, 0, 82, 183, 0, 86, 77, 42, 27, 182, 0, 89, 44, 176, 3, 61, 28, 42, 180, 0, 15, 190]
abbrev dktX5_value_1 : List UInt8 := dkwX5_value_1 ++ dktX5_value_2
def dkwX5_value_0 : List UInt8 := [42, 182, 0, 45, 87, 42, 180, 0, 23, 60, 42, 182, 0, 65, 153, 0, 25, 187, 0, 79, 89, 42, 3]
abbrev dktX5_value_0 : List UInt8 := dkwX5_value_0 ++ dktX5_value_1
theorem dksX5_value_0 : cX5_value.data.toList.drop 0 = dktX5_value_0 := by decide +kernel
theorem dksX5_value_1 : cX5_value.data.toList.drop 23 = dktX5_value_1 := dk_seg dksX5_value_0 23 rfl rfl
theorem dksX5_value_2 : cX5_value.data.toList.drop 47 = dktX5_value_2 := dk_seg dksX5_value_1 24 rfl rfl
theorem dksX5_value_3 : cX5_value.data.toList.drop 71 = dktX5_value_3 := dk_seg dksX5_value_2 24 rfl rfl
theorem dksX5_value_4 : cX5_value.data.toList.drop 94 = dktX5_value_4 := dk_seg dksX5_value_3 23 rfl rfl
theorem dX5_value_0 : decode cX5_value 0 = .ok (.aload_n 0, 1) := dk_42 (dk_at dksX5_value_0 0 rfl rfl)
theorem dX5_value_1 : decode cX5_value 1 = .ok (.invokevirtual 45, 3) := dk_182 0 45 (dk_at dksX5_value_0 1 rfl rfl)
theorem dX5_value_4 : decode cX5_value 4 = .ok (.pop, 1) := dk_87 (dk_at dksX5_value_0 4 rfl rfl)
theorem dX5_value_5 : decode cX5_value 5 = .ok (.aload_n 0, 1) := dk_42 (dk_at dksX5_value_0 5 rfl rfl)
theorem dX5_value_6 : decode cX5_value 6 = .ok (.getfield 23, 3) := dk_180 0 23 (dk_at dksX5_value_0 6 rfl rfl)
theorem dX5_value_9 : decode cX5_value 9 = .ok (.istore_n 1, 1) := dk_60 (dk_at dksX5_value_0 9 rfl rfl)
theorem dX5_value_10 : decode cX5_value 10 = .ok (.aload_n 0, 1) := dk_42 (dk_at dksX5_value_0 10 rfl rfl)
theorem dX5_value_11 : decode cX5_value 11 = .ok (.invokevirtual 65, 3) := dk_182 0 65 (dk_at dksX5_value_0 11 rfl rfl)
theorem dX5_value_14 : decode cX5_value 14 = .ok (.ifCond .eq 25, 3) := dk_153 0 25 (dk_at dksX5_value_0 14 rfl rfl)
theorem dX5_value_17 : decode cX5_value 17 = .ok (.new 79, 3) := dk_187 0 79 (dk_at dksX5_value_0 17 rfl rfl)
theorem dX5_value_20 : decode cX5_value 20 = .ok (.dup, 1) := dk_89 (dk_at dksX5_value_0 20 rfl rfl)
theorem dX5_value_21 : decode cX5_value 21 = .ok (.aload_n 0, 1) := dk_42 (dk_at dksX5_value_0 21 rfl rfl)
theorem dX5_value_22 : decode cX5_value 22 = .ok (.iconst 0, 1) := dk_3 (dk_at dksX5_value_0 22 rfl rfl)
theorem dX5_value_23 : decode cX5_value 23 = .ok (.ldc 81, 2) := dk_18 81 (dk_at dksX5_value_1 0 rfl rfl)
theorem dX5_value_25 : decode cX5_value 25 = .ok (.invokevirtual 82, 3) := dk_182 0 82 (dk_at dksX5_value_1 2 rfl rfl)
theorem dX5_value_28 : decode cX5_value 28 = .ok (.invokespecial 86, 3) := dk_183 0 86 (dk_at dksX5_value_1 5 rfl rfl)
theorem dX5_value_31 : decode cX5_value 31 = .ok (.astore_n 2, 1) := dk_77 (dk_at dksX5_value_1 8 rfl rfl)
theorem dX5_value_32 : decode cX5_value 32 = .ok (.aload_n 0, 1) := dk_42 (dk_at dksX5_value_1 9 rfl rfl)
theorem dX5_value_33 : decode cX5_value 33 = .ok (.iload_n 1, 1) := dk_27 (dk_at dksX5_value_1 10 rfl rfl)
theorem dX5_value_34 : decode cX5_value 34 = .ok (.invokevirtual 89, 3) := dk_182 0 89 (dk_at dksX5_value_1 11 rfl rfl)
theorem dX5_value_37 : decode cX5_value 37 = .ok (.aload_n 2, 1) := dk_44 (dk_at dksX5_value_1 14 rfl rfl)
theorem dX5_value_38 : decode cX5_value 38 = .ok (.areturn, 1) := dk_176 (dk_at dksX5_value_1 15 rfl rfl)
theorem dX5_value_39 : decode cX5_value 39 = .ok (.iconst 0, 1) := dk_3 (dk_at dksX5_value_1 16 rfl rfl)
theorem dX5_value_40 : decode cX5_value 40 = .ok (.istore_n 2, 1) := dk_61 (dk_at dksX5_value_1 17 rfl rfl)
theorem dX5_value_41 : decode cX5_value 41 = .ok (.iload_n 2, 1) := dk_28 (dk_at dksX5_value_1 18 rfl rfl)
theorem dX5_value_42 : decode cX5_value 42 = .ok (.aload_n 0, 1) := dk_42 (dk_at dksX5_value_1 19 rfl rfl)
theorem dX5_value_43 : decode cX5_value 43 = .ok (.getfield 15, 3) := dk_180 0 15 (dk_at dksX5_value_1 20 rfl rfl)
theorem dX5_value_46 : decode cX5_value 46 = .ok (.arraylength, 1) := dk_190 (dk_at dksX5_value_1 23 rfl rfl)
theorem dX5_value_47 : decode cX5_value 47 = .ok (.if_icmp .ge 57, 3) := dk_162 0 57 (dk_at dksX5_value_2 0 rfl rfl)
theorem dX5_value_50 : decode cX5_value 50 = .ok (.aload_n 0, 1) := dk_42 (dk_at dksX5_value_2 3 rfl rfl)
theorem dX5_value_51 : decode cX5_value 51 = .ok (.aload_n 0, 1) := dk_42 (dk_at dksX5_value_2 4 rfl rfl)
theorem dX5_value_52 : decode cX5_value 52 = .ok (.getfield 15, 3) := dk_180 0 15 (dk_at dksX5_value_2 5 rfl rfl)
theorem dX5_value_55 : decode cX5_value 55 = .ok (.iload_n 2, 1) := dk_28 (dk_at dksX5_value_2 8 rfl rfl)
theorem dX5_value_56 : decode cX5_value 56 = .ok (.aaload, 1) := dk_50 (dk_at dksX5_value_2 9 rfl rfl)
theorem dX5_value_57 : decode cX5_value 57 = .ok (.invokevirtual 61, 3) := dk_182 0 61 (dk_at dksX5_value_2 10 rfl rfl)
theorem dX5_value_60 : decode cX5_value 60 = .ok (.ifCond .ne 6, 3) := dk_154 0 6 (dk_at dksX5_value_2 13 rfl rfl)
theorem dX5_value_63 : decode cX5_value 63 = .ok (.goto 35, 3) := dk_167 0 35 (dk_at dksX5_value_2 16 rfl rfl)
theorem dX5_value_66 : decode cX5_value 66 = .ok (.aload_n 0, 1) := dk_42 (dk_at dksX5_value_2 19 rfl rfl)
theorem dX5_value_67 : decode cX5_value 67 = .ok (.iload_n 1, 1) := dk_27 (dk_at dksX5_value_2 20 rfl rfl)
theorem dX5_value_68 : decode cX5_value 68 = .ok (.invokevirtual 89, 3) := dk_182 0 89 (dk_at dksX5_value_2 21 rfl rfl)
theorem dX5_value_71 : decode cX5_value 71 = .ok (.aload_n 0, 1) := dk_42 (dk_at dksX5_value_3 0 rfl rfl)
theorem dX5_value_72 : decode cX5_value 72 = .ok (.dup, 1) := dk_89 (dk_at dksX5_value_3 1 rfl rfl)
theorem dX5_value_73 : decode cX5_value 73 = .ok (.getfield 23, 3) := dk_180 0 23 (dk_at dksX5_value_3 2 rfl rfl)
theorem dX5_value_76 : decode cX5_value 76 = .ok (.aload_n 0, 1) := dk_42 (dk_at dksX5_value_3 5 rfl rfl)
theorem dX5_value_77 : decode cX5_value 77 = .ok (.getfield 15, 3) := dk_180 0 15 (dk_at dksX5_value_3 6 rfl rfl)
theorem dX5_value_80 : decode cX5_value 80 = .ok (.iload_n 2, 1) := dk_28 (dk_at dksX5_value_3 9 rfl rfl)
theorem dX5_value_81 : decode cX5_value 81 = .ok (.aaload, 1) := dk_50 (dk_at dksX5_value_3 10 rfl rfl)
theorem dX5_value_82 : decode cX5_value 82 = .ok (.invokevirtual 52, 3) := dk_182 0 52 (dk_at dksX5_value_3 11 rfl rfl)
theorem dX5_value_85 : decode cX5_value 85 = .ok (.iadd, 1) := dk_96 (dk_at dksX5_value_3 14 rfl rfl)
theorem dX5_value_86 : decode cX5_value 86 = .ok (.putfield 23, 3) := dk_181 0 23 (dk_at dksX5_value_3 15 rfl rfl)
theorem dX5_value_89 : decode cX5_value 89 = .ok (.new 92, 3) := dk_187 0 92 (dk_at dksX5_value_3 18 rfl rfl)
theorem dX5_value_92 : decode cX5_value 92 = .ok (.dup, 1) := dk_89 (dk_at dksX5_value_3 21 rfl rfl)
theorem dX5_value_93 : decode cX5_value 93 = .ok (.iload_n 2, 1) := dk_28 (dk_at dksX5_value_3 22 rfl rfl)
theorem dX5_value_94 : decode cX5_value 94 = .ok (.invokespecial 94, 3) := dk_183 0 94 (dk_at dksX5_value_4 0 rfl rfl)
theorem dX5_value_97 : decode cX5_value 97 = .ok (.areturn, 1) := dk_176 (dk_at dksX5_value_4 3 rfl rfl)
theorem dX5_value_98 : decode cX5_value 98 = .ok (.iinc 2 1, 3) := dk_132 2 1 (dk_at dksX5_value_4 4 rfl rfl)
theorem dX5_value_101 : decode cX5_value 101 = .ok (.goto (-60), 3) := dk_167 255 196 (dk_at dksX5_value_4 7 rfl rfl)
theorem dX5_value_104 : decode cX5_value 104 = .ok (.aload_n 0, 1) := dk_42 (dk_at dksX5_value_4 10 rfl rfl)
theorem dX5_value_105 : decode cX5_value 105 = .ok (.getfield 3, 3) := dk_180 0 3 (dk_at dksX5_value_4 11 rfl rfl)
theorem dX5_value_108 : decode cX5_value 108 = .ok (.iconst 0, 1) := dk_3 (dk_at dksX5_value_4 14 rfl rfl)
theorem dX5_value_109 : decode cX5_value 109 = .ok (.iload_n 1, 1) := dk_27 (dk_at dksX5_value_4 15 rfl rfl)
theorem dX5_value_110 : decode cX5_value 110 = .ok (.invokevirtual 69, 3) := dk_182 0 69 (dk_at dksX5_value_4 16 rfl rfl)
theorem dX5_value_113 : decode cX5_value 113 = .ok (.athrow, 1) := dk_191 (dk_at dksX5_value_4 19 rfl rfl)
abbrev cX5_counts : ByteArray := prog_11_method_8_code
def yX5_counts : MethodName := ⟨RX5, "counts", "(I)V"⟩
def dkwX5_counts_1 : List UInt8 := [4, 96, 181, 0, 73, 177]
abbrev dktX5_counts_1 : List UInt8 := dkwX5_counts_1 ++ []
def dkwX5_counts_0 : List UInt8 := [42, 180, 0, 73, 16, 60, 160, 0, 13, 42, 180, 0, 3, 6, 27, 182, 0, 69, 191, 42, 89, 180, 0, 73]
abbrev dktX5_counts_0 : List UInt8 := dkwX5_counts_0 ++ dktX5_counts_1
theorem dksX5_counts_0 : cX5_counts.data.toList.drop 0 = dktX5_counts_0 := by decide +kernel
theorem dksX5_counts_1 : cX5_counts.data.toList.drop 24 = dktX5_counts_1 := dk_seg dksX5_counts_0 24 rfl rfl
theorem dX5_counts_0 : decode cX5_counts 0 = .ok (.aload_n 0, 1) := dk_42 (dk_at dksX5_counts_0 0 rfl rfl)
theorem dX5_counts_1 : decode cX5_counts 1 = .ok (.getfield 73, 3) := dk_180 0 73 (dk_at dksX5_counts_0 1 rfl rfl)
theorem dX5_counts_4 : decode cX5_counts 4 = .ok (.bipush 60, 2) := dk_16 60 (dk_at dksX5_counts_0 4 rfl rfl)
theorem dX5_counts_6 : decode cX5_counts 6 = .ok (.if_icmp .ne 13, 3) := dk_160 0 13 (dk_at dksX5_counts_0 6 rfl rfl)
theorem dX5_counts_9 : decode cX5_counts 9 = .ok (.aload_n 0, 1) := dk_42 (dk_at dksX5_counts_0 9 rfl rfl)
theorem dX5_counts_10 : decode cX5_counts 10 = .ok (.getfield 3, 3) := dk_180 0 3 (dk_at dksX5_counts_0 10 rfl rfl)
theorem dX5_counts_13 : decode cX5_counts 13 = .ok (.iconst 3, 1) := dk_6 (dk_at dksX5_counts_0 13 rfl rfl)
theorem dX5_counts_14 : decode cX5_counts 14 = .ok (.iload_n 1, 1) := dk_27 (dk_at dksX5_counts_0 14 rfl rfl)
theorem dX5_counts_15 : decode cX5_counts 15 = .ok (.invokevirtual 69, 3) := dk_182 0 69 (dk_at dksX5_counts_0 15 rfl rfl)
theorem dX5_counts_18 : decode cX5_counts 18 = .ok (.athrow, 1) := dk_191 (dk_at dksX5_counts_0 18 rfl rfl)
theorem dX5_counts_19 : decode cX5_counts 19 = .ok (.aload_n 0, 1) := dk_42 (dk_at dksX5_counts_0 19 rfl rfl)
theorem dX5_counts_20 : decode cX5_counts 20 = .ok (.dup, 1) := dk_89 (dk_at dksX5_counts_0 20 rfl rfl)
theorem dX5_counts_21 : decode cX5_counts 21 = .ok (.getfield 73, 3) := dk_180 0 73 (dk_at dksX5_counts_0 21 rfl rfl)
theorem dX5_counts_24 : decode cX5_counts 24 = .ok (.iconst 1, 1) := dk_4 (dk_at dksX5_counts_1 0 rfl rfl)
theorem dX5_counts_25 : decode cX5_counts 25 = .ok (.iadd, 1) := dk_96 (dk_at dksX5_counts_1 1 rfl rfl)
theorem dX5_counts_26 : decode cX5_counts 26 = .ok (.putfield 73, 3) := dk_181 0 73 (dk_at dksX5_counts_1 2 rfl rfl)
theorem dX5_counts_29 : decode cX5_counts 29 = .ok (.return_, 1) := dk_177 (dk_at dksX5_counts_1 5 rfl rfl)
abbrev cX5_takes : ByteArray := prog_11_method_6_code
def yX5_takes : MethodName := ⟨RX5, "takes", "(Ljava/lang/String;)Z"⟩
def dkwX5_takes_1 : List UInt8 := [181, 0, 23, 28, 172]
abbrev dktX5_takes_1 : List UInt8 := dkwX5_takes_1 ++ []
def dkwX5_takes_0 : List UInt8 := [42, 43, 182, 0, 61, 61, 42, 89, 180, 0, 23, 28, 153, 0, 10, 43, 182, 0, 52, 167, 0, 4, 3, 96]
abbrev dktX5_takes_0 : List UInt8 := dkwX5_takes_0 ++ dktX5_takes_1
theorem dksX5_takes_0 : cX5_takes.data.toList.drop 0 = dktX5_takes_0 := by decide +kernel
theorem dksX5_takes_1 : cX5_takes.data.toList.drop 24 = dktX5_takes_1 := dk_seg dksX5_takes_0 24 rfl rfl
theorem dX5_takes_0 : decode cX5_takes 0 = .ok (.aload_n 0, 1) := dk_42 (dk_at dksX5_takes_0 0 rfl rfl)
theorem dX5_takes_1 : decode cX5_takes 1 = .ok (.aload_n 1, 1) := dk_43 (dk_at dksX5_takes_0 1 rfl rfl)
theorem dX5_takes_2 : decode cX5_takes 2 = .ok (.invokevirtual 61, 3) := dk_182 0 61 (dk_at dksX5_takes_0 2 rfl rfl)
theorem dX5_takes_5 : decode cX5_takes 5 = .ok (.istore_n 2, 1) := dk_61 (dk_at dksX5_takes_0 5 rfl rfl)
theorem dX5_takes_6 : decode cX5_takes 6 = .ok (.aload_n 0, 1) := dk_42 (dk_at dksX5_takes_0 6 rfl rfl)
theorem dX5_takes_7 : decode cX5_takes 7 = .ok (.dup, 1) := dk_89 (dk_at dksX5_takes_0 7 rfl rfl)
theorem dX5_takes_8 : decode cX5_takes 8 = .ok (.getfield 23, 3) := dk_180 0 23 (dk_at dksX5_takes_0 8 rfl rfl)
theorem dX5_takes_11 : decode cX5_takes 11 = .ok (.iload_n 2, 1) := dk_28 (dk_at dksX5_takes_0 11 rfl rfl)
theorem dX5_takes_12 : decode cX5_takes 12 = .ok (.ifCond .eq 10, 3) := dk_153 0 10 (dk_at dksX5_takes_0 12 rfl rfl)
theorem dX5_takes_15 : decode cX5_takes 15 = .ok (.aload_n 1, 1) := dk_43 (dk_at dksX5_takes_0 15 rfl rfl)
theorem dX5_takes_16 : decode cX5_takes 16 = .ok (.invokevirtual 52, 3) := dk_182 0 52 (dk_at dksX5_takes_0 16 rfl rfl)
theorem dX5_takes_19 : decode cX5_takes 19 = .ok (.goto 4, 3) := dk_167 0 4 (dk_at dksX5_takes_0 19 rfl rfl)
theorem dX5_takes_22 : decode cX5_takes 22 = .ok (.iconst 0, 1) := dk_3 (dk_at dksX5_takes_0 22 rfl rfl)
theorem dX5_takes_23 : decode cX5_takes 23 = .ok (.iadd, 1) := dk_96 (dk_at dksX5_takes_0 23 rfl rfl)
theorem dX5_takes_24 : decode cX5_takes 24 = .ok (.putfield 23, 3) := dk_181 0 23 (dk_at dksX5_takes_1 0 rfl rfl)
theorem dX5_takes_27 : decode cX5_takes 27 = .ok (.iload_n 2, 1) := dk_28 (dk_at dksX5_takes_1 3 rfl rfl)
theorem dX5_takes_28 : decode cX5_takes 28 = .ok (.ireturn, 1) := dk_172 (dk_at dksX5_takes_1 4 rfl rfl)
abbrev cX5_test : ByteArray := prog_11_method_15_code
def yX5_test : MethodName := ⟨RX5, "test", "()LOutwardDoors$Condition;"⟩
def dkwX5_test_1 : List UInt8 := [183, 0, 139, 76, 167, 255, 233, 43, 176]
abbrev dktX5_test_1 : List UInt8 := dkwX5_test_1 ++ []
def dkwX5_test_0 : List UInt8 := [42, 182, 0, 142, 76, 42, 18, 145, 182, 0, 134, 153, 0, 20, 187, 0, 137, 89, 43, 42, 182, 0, 142, 4]
abbrev dktX5_test_0 : List UInt8 := dkwX5_test_0 ++ dktX5_test_1
theorem dksX5_test_0 : cX5_test.data.toList.drop 0 = dktX5_test_0 := by decide +kernel
theorem dksX5_test_1 : cX5_test.data.toList.drop 24 = dktX5_test_1 := dk_seg dksX5_test_0 24 rfl rfl
theorem dX5_test_0 : decode cX5_test 0 = .ok (.aload_n 0, 1) := dk_42 (dk_at dksX5_test_0 0 rfl rfl)
theorem dX5_test_1 : decode cX5_test 1 = .ok (.invokevirtual 142, 3) := dk_182 0 142 (dk_at dksX5_test_0 1 rfl rfl)
theorem dX5_test_4 : decode cX5_test 4 = .ok (.astore_n 1, 1) := dk_76 (dk_at dksX5_test_0 4 rfl rfl)
theorem dX5_test_5 : decode cX5_test 5 = .ok (.aload_n 0, 1) := dk_42 (dk_at dksX5_test_0 5 rfl rfl)
theorem dX5_test_6 : decode cX5_test 6 = .ok (.ldc 145, 2) := dk_18 145 (dk_at dksX5_test_0 6 rfl rfl)
theorem dX5_test_8 : decode cX5_test 8 = .ok (.invokevirtual 134, 3) := dk_182 0 134 (dk_at dksX5_test_0 8 rfl rfl)
theorem dX5_test_11 : decode cX5_test 11 = .ok (.ifCond .eq 20, 3) := dk_153 0 20 (dk_at dksX5_test_0 11 rfl rfl)
theorem dX5_test_14 : decode cX5_test 14 = .ok (.new 137, 3) := dk_187 0 137 (dk_at dksX5_test_0 14 rfl rfl)
theorem dX5_test_17 : decode cX5_test 17 = .ok (.dup, 1) := dk_89 (dk_at dksX5_test_0 17 rfl rfl)
theorem dX5_test_18 : decode cX5_test 18 = .ok (.aload_n 1, 1) := dk_43 (dk_at dksX5_test_0 18 rfl rfl)
theorem dX5_test_19 : decode cX5_test 19 = .ok (.aload_n 0, 1) := dk_42 (dk_at dksX5_test_0 19 rfl rfl)
theorem dX5_test_20 : decode cX5_test 20 = .ok (.invokevirtual 142, 3) := dk_182 0 142 (dk_at dksX5_test_0 20 rfl rfl)
theorem dX5_test_23 : decode cX5_test 23 = .ok (.iconst 1, 1) := dk_4 (dk_at dksX5_test_0 23 rfl rfl)
theorem dX5_test_24 : decode cX5_test 24 = .ok (.invokespecial 139, 3) := dk_183 0 139 (dk_at dksX5_test_1 0 rfl rfl)
theorem dX5_test_27 : decode cX5_test 27 = .ok (.astore_n 1, 1) := dk_76 (dk_at dksX5_test_1 3 rfl rfl)
theorem dX5_test_28 : decode cX5_test 28 = .ok (.goto (-23), 3) := dk_167 255 233 (dk_at dksX5_test_1 4 rfl rfl)
theorem dX5_test_31 : decode cX5_test 31 = .ok (.aload_n 1, 1) := dk_43 (dk_at dksX5_test_1 7 rfl rfl)
theorem dX5_test_32 : decode cX5_test 32 = .ok (.areturn, 1) := dk_176 (dk_at dksX5_test_1 8 rfl rfl)
abbrev cX5_part : ByteArray := prog_11_method_14_code
def yX5_part : MethodName := ⟨RX5, "part", "()LOutwardDoors$Condition;"⟩
def dkwX5_part_1 : List UInt8 := [183, 0, 139, 76, 167, 255, 233, 43, 176]
abbrev dktX5_part_1 : List UInt8 := dkwX5_part_1 ++ []
def dkwX5_part_0 : List UInt8 := [42, 182, 0, 114, 76, 42, 18, 132, 182, 0, 134, 153, 0, 20, 187, 0, 137, 89, 43, 42, 182, 0, 114, 3]
abbrev dktX5_part_0 : List UInt8 := dkwX5_part_0 ++ dktX5_part_1
theorem dksX5_part_0 : cX5_part.data.toList.drop 0 = dktX5_part_0 := by decide +kernel
theorem dksX5_part_1 : cX5_part.data.toList.drop 24 = dktX5_part_1 := dk_seg dksX5_part_0 24 rfl rfl
theorem dX5_part_0 : decode cX5_part 0 = .ok (.aload_n 0, 1) := dk_42 (dk_at dksX5_part_0 0 rfl rfl)
theorem dX5_part_1 : decode cX5_part 1 = .ok (.invokevirtual 114, 3) := dk_182 0 114 (dk_at dksX5_part_0 1 rfl rfl)
theorem dX5_part_4 : decode cX5_part 4 = .ok (.astore_n 1, 1) := dk_76 (dk_at dksX5_part_0 4 rfl rfl)
theorem dX5_part_5 : decode cX5_part 5 = .ok (.aload_n 0, 1) := dk_42 (dk_at dksX5_part_0 5 rfl rfl)
theorem dX5_part_6 : decode cX5_part 6 = .ok (.ldc 132, 2) := dk_18 132 (dk_at dksX5_part_0 6 rfl rfl)
theorem dX5_part_8 : decode cX5_part 8 = .ok (.invokevirtual 134, 3) := dk_182 0 134 (dk_at dksX5_part_0 8 rfl rfl)
theorem dX5_part_11 : decode cX5_part 11 = .ok (.ifCond .eq 20, 3) := dk_153 0 20 (dk_at dksX5_part_0 11 rfl rfl)
theorem dX5_part_14 : decode cX5_part 14 = .ok (.new 137, 3) := dk_187 0 137 (dk_at dksX5_part_0 14 rfl rfl)
theorem dX5_part_17 : decode cX5_part 17 = .ok (.dup, 1) := dk_89 (dk_at dksX5_part_0 17 rfl rfl)
theorem dX5_part_18 : decode cX5_part 18 = .ok (.aload_n 1, 1) := dk_43 (dk_at dksX5_part_0 18 rfl rfl)
theorem dX5_part_19 : decode cX5_part 19 = .ok (.aload_n 0, 1) := dk_42 (dk_at dksX5_part_0 19 rfl rfl)
theorem dX5_part_20 : decode cX5_part 20 = .ok (.invokevirtual 114, 3) := dk_182 0 114 (dk_at dksX5_part_0 20 rfl rfl)
theorem dX5_part_23 : decode cX5_part 23 = .ok (.iconst 0, 1) := dk_3 (dk_at dksX5_part_0 23 rfl rfl)
theorem dX5_part_24 : decode cX5_part 24 = .ok (.invokespecial 139, 3) := dk_183 0 139 (dk_at dksX5_part_1 0 rfl rfl)
theorem dX5_part_27 : decode cX5_part 27 = .ok (.astore_n 1, 1) := dk_76 (dk_at dksX5_part_1 3 rfl rfl)
theorem dX5_part_28 : decode cX5_part 28 = .ok (.goto (-23), 3) := dk_167 255 233 (dk_at dksX5_part_1 4 rfl rfl)
theorem dX5_part_31 : decode cX5_part 31 = .ok (.aload_n 1, 1) := dk_43 (dk_at dksX5_part_1 7 rfl rfl)
theorem dX5_part_32 : decode cX5_part 32 = .ok (.areturn, 1) := dk_176 (dk_at dksX5_part_1 8 rfl rfl)
abbrev cX5_fact : ByteArray := prog_11_method_13_code
def yX5_fact : MethodName := ⟨RX5, "fact", "()LOutwardDoors$Condition;"⟩
def dkwX5_fact_10 : List UInt8 := [182, 0, 124, 29, 21, 4, 183, 0, 129, 176]
abbrev dktX5_fact_10 : List UInt8 := dkwX5_fact_10 ++ []
def dkwX5_fact_9 : List UInt8 := [180, 0, 23, 21, 4, 153, 0, 7, 4, 167, 0, 4, 3, 96, 181, 0, 23, 187, 0, 127, 89, 44, 42]
abbrev dktX5_fact_9 : List UInt8 := dkwX5_fact_9 ++ dktX5_fact_10
def dkwX5_fact_8 : List UInt8 := [16, 61, 159, 0, 16, 42, 182, 0, 33, 16, 61, 160, 0, 7, 4, 167, 0, 4, 3, 54, 4, 42, 89]
abbrev dktX5_fact_8 : List UInt8 := dkwX5_fact_8 ++ dktX5_fact_9
def dkwX5_fact_7 : List UInt8 := [182, 0, 69, 191, 42, 42, 180, 0, 23, 182, 0, 89, 42, 89, 180, 0, 23, 4, 96, 181, 0, 23, 29]
abbrev dktX5_fact_7 : List UInt8 := dkwX5_fact_7 ++ dktX5_fact_8
def dkwX5_fact_6 : List UInt8 := [159, 0, 28, 29, 16, 61, 159, 0, 22, 29, 16, 62, 159, 0, 16, 42, 180, 0, 3, 3, 42, 180, 0, 23]
abbrev dktX5_fact_6 : List UInt8 := dkwX5_fact_6 ++ dktX5_fact_7
def dkwX5_fact_5 : List UInt8 := [89, 180, 0, 76, 4, 100, 181, 0, 76, 44, 176, 42, 182, 0, 124, 77, 42, 182, 0, 45, 62, 29, 16, 60]
abbrev dktX5_fact_5 : List UInt8 := dkwX5_fact_5 ++ dktX5_fact_6
def dkwX5_fact_4 : List UInt8 := [42, 180, 0, 3, 3, 42, 180, 0, 23, 182, 0, 69, 191, 42, 89, 180, 0, 23, 4, 96, 181, 0, 23, 42]
abbrev dktX5_fact_4 : List UInt8 := dkwX5_fact_4 ++ dktX5_fact_5
def dkwX5_fact_3 : List UInt8 := [42, 89, 180, 0, 23, 4, 96, 181, 0, 23, 42, 182, 0, 121, 77, 42, 182, 0, 45, 16, 93, 159, 0, 16]
abbrev dktX5_fact_3 : List UInt8 := dkwX5_fact_3 ++ dktX5_fact_4
def dkwX5_fact_2 : List UInt8 := [180, 0, 76, 4, 100, 181, 0, 76, 44, 176, 42, 182, 0, 33, 16, 91, 160, 0, 67, 42, 27, 182, 0, 109]
abbrev dktX5_fact_2 : List UInt8 := dkwX5_fact_2 ++ dktX5_fact_3
def dkwX5_fact_1 : List UInt8 := [42, 89, 180, 0, 23, 6, 96, 181, 0, 23, 187, 0, 112, 89, 42, 182, 0, 114, 183, 0, 118, 77, 42, 89]
abbrev dktX5_fact_1 : List UInt8 := dkwX5_fact_1 ++ dktX5_fact_2
def dkwX5_fact_0 : List UInt8 := [42, 182, 0, 45, 87, 42, 180, 0, 23, 60, 42, 18, 107, 182, 0, 61, 153, 0, 42, 42, 27, 182, 0, 109]
abbrev dktX5_fact_0 : List UInt8 := dkwX5_fact_0 ++ dktX5_fact_1
theorem dksX5_fact_0 : cX5_fact.data.toList.drop 0 = dktX5_fact_0 := by decide +kernel
theorem dksX5_fact_1 : cX5_fact.data.toList.drop 24 = dktX5_fact_1 := dk_seg dksX5_fact_0 24 rfl rfl
theorem dksX5_fact_2 : cX5_fact.data.toList.drop 48 = dktX5_fact_2 := dk_seg dksX5_fact_1 24 rfl rfl
theorem dksX5_fact_3 : cX5_fact.data.toList.drop 72 = dktX5_fact_3 := dk_seg dksX5_fact_2 24 rfl rfl
theorem dksX5_fact_4 : cX5_fact.data.toList.drop 96 = dktX5_fact_4 := dk_seg dksX5_fact_3 24 rfl rfl
theorem dksX5_fact_5 : cX5_fact.data.toList.drop 120 = dktX5_fact_5 := dk_seg dksX5_fact_4 24 rfl rfl
theorem dksX5_fact_6 : cX5_fact.data.toList.drop 144 = dktX5_fact_6 := dk_seg dksX5_fact_5 24 rfl rfl
theorem dksX5_fact_7 : cX5_fact.data.toList.drop 168 = dktX5_fact_7 := dk_seg dksX5_fact_6 24 rfl rfl
theorem dksX5_fact_8 : cX5_fact.data.toList.drop 191 = dktX5_fact_8 := dk_seg dksX5_fact_7 23 rfl rfl
theorem dksX5_fact_9 : cX5_fact.data.toList.drop 214 = dktX5_fact_9 := dk_seg dksX5_fact_8 23 rfl rfl
theorem dksX5_fact_10 : cX5_fact.data.toList.drop 237 = dktX5_fact_10 := dk_seg dksX5_fact_9 23 rfl rfl
theorem dX5_fact_0 : decode cX5_fact 0 = .ok (.aload_n 0, 1) := dk_42 (dk_at dksX5_fact_0 0 rfl rfl)
theorem dX5_fact_1 : decode cX5_fact 1 = .ok (.invokevirtual 45, 3) := dk_182 0 45 (dk_at dksX5_fact_0 1 rfl rfl)
theorem dX5_fact_4 : decode cX5_fact 4 = .ok (.pop, 1) := dk_87 (dk_at dksX5_fact_0 4 rfl rfl)
theorem dX5_fact_5 : decode cX5_fact 5 = .ok (.aload_n 0, 1) := dk_42 (dk_at dksX5_fact_0 5 rfl rfl)
theorem dX5_fact_6 : decode cX5_fact 6 = .ok (.getfield 23, 3) := dk_180 0 23 (dk_at dksX5_fact_0 6 rfl rfl)
theorem dX5_fact_9 : decode cX5_fact 9 = .ok (.istore_n 1, 1) := dk_60 (dk_at dksX5_fact_0 9 rfl rfl)
theorem dX5_fact_10 : decode cX5_fact 10 = .ok (.aload_n 0, 1) := dk_42 (dk_at dksX5_fact_0 10 rfl rfl)
theorem dX5_fact_11 : decode cX5_fact 11 = .ok (.ldc 107, 2) := dk_18 107 (dk_at dksX5_fact_0 11 rfl rfl)
theorem dX5_fact_13 : decode cX5_fact 13 = .ok (.invokevirtual 61, 3) := dk_182 0 61 (dk_at dksX5_fact_0 13 rfl rfl)
theorem dX5_fact_16 : decode cX5_fact 16 = .ok (.ifCond .eq 42, 3) := dk_153 0 42 (dk_at dksX5_fact_0 16 rfl rfl)
theorem dX5_fact_19 : decode cX5_fact 19 = .ok (.aload_n 0, 1) := dk_42 (dk_at dksX5_fact_0 19 rfl rfl)
theorem dX5_fact_20 : decode cX5_fact 20 = .ok (.iload_n 1, 1) := dk_27 (dk_at dksX5_fact_0 20 rfl rfl)
theorem dX5_fact_21 : decode cX5_fact 21 = .ok (.invokevirtual 109, 3) := dk_182 0 109 (dk_at dksX5_fact_0 21 rfl rfl)
theorem dX5_fact_24 : decode cX5_fact 24 = .ok (.aload_n 0, 1) := dk_42 (dk_at dksX5_fact_1 0 rfl rfl)
theorem dX5_fact_25 : decode cX5_fact 25 = .ok (.dup, 1) := dk_89 (dk_at dksX5_fact_1 1 rfl rfl)
theorem dX5_fact_26 : decode cX5_fact 26 = .ok (.getfield 23, 3) := dk_180 0 23 (dk_at dksX5_fact_1 2 rfl rfl)
theorem dX5_fact_29 : decode cX5_fact 29 = .ok (.iconst 3, 1) := dk_6 (dk_at dksX5_fact_1 5 rfl rfl)
theorem dX5_fact_30 : decode cX5_fact 30 = .ok (.iadd, 1) := dk_96 (dk_at dksX5_fact_1 6 rfl rfl)
theorem dX5_fact_31 : decode cX5_fact 31 = .ok (.putfield 23, 3) := dk_181 0 23 (dk_at dksX5_fact_1 7 rfl rfl)
theorem dX5_fact_34 : decode cX5_fact 34 = .ok (.new 112, 3) := dk_187 0 112 (dk_at dksX5_fact_1 10 rfl rfl)
theorem dX5_fact_37 : decode cX5_fact 37 = .ok (.dup, 1) := dk_89 (dk_at dksX5_fact_1 13 rfl rfl)
theorem dX5_fact_38 : decode cX5_fact 38 = .ok (.aload_n 0, 1) := dk_42 (dk_at dksX5_fact_1 14 rfl rfl)
theorem dX5_fact_39 : decode cX5_fact 39 = .ok (.invokevirtual 114, 3) := dk_182 0 114 (dk_at dksX5_fact_1 15 rfl rfl)
theorem dX5_fact_42 : decode cX5_fact 42 = .ok (.invokespecial 118, 3) := dk_183 0 118 (dk_at dksX5_fact_1 18 rfl rfl)
theorem dX5_fact_45 : decode cX5_fact 45 = .ok (.astore_n 2, 1) := dk_77 (dk_at dksX5_fact_1 21 rfl rfl)
theorem dX5_fact_46 : decode cX5_fact 46 = .ok (.aload_n 0, 1) := dk_42 (dk_at dksX5_fact_1 22 rfl rfl)
theorem dX5_fact_47 : decode cX5_fact 47 = .ok (.dup, 1) := dk_89 (dk_at dksX5_fact_1 23 rfl rfl)
theorem dX5_fact_48 : decode cX5_fact 48 = .ok (.getfield 76, 3) := dk_180 0 76 (dk_at dksX5_fact_2 0 rfl rfl)
theorem dX5_fact_51 : decode cX5_fact 51 = .ok (.iconst 1, 1) := dk_4 (dk_at dksX5_fact_2 3 rfl rfl)
theorem dX5_fact_52 : decode cX5_fact 52 = .ok (.isub, 1) := dk_100 (dk_at dksX5_fact_2 4 rfl rfl)
theorem dX5_fact_53 : decode cX5_fact 53 = .ok (.putfield 76, 3) := dk_181 0 76 (dk_at dksX5_fact_2 5 rfl rfl)
theorem dX5_fact_56 : decode cX5_fact 56 = .ok (.aload_n 2, 1) := dk_44 (dk_at dksX5_fact_2 8 rfl rfl)
theorem dX5_fact_57 : decode cX5_fact 57 = .ok (.areturn, 1) := dk_176 (dk_at dksX5_fact_2 9 rfl rfl)
theorem dX5_fact_58 : decode cX5_fact 58 = .ok (.aload_n 0, 1) := dk_42 (dk_at dksX5_fact_2 10 rfl rfl)
theorem dX5_fact_59 : decode cX5_fact 59 = .ok (.invokevirtual 33, 3) := dk_182 0 33 (dk_at dksX5_fact_2 11 rfl rfl)
theorem dX5_fact_62 : decode cX5_fact 62 = .ok (.bipush 91, 2) := dk_16 91 (dk_at dksX5_fact_2 14 rfl rfl)
theorem dX5_fact_64 : decode cX5_fact 64 = .ok (.if_icmp .ne 67, 3) := dk_160 0 67 (dk_at dksX5_fact_2 16 rfl rfl)
theorem dX5_fact_67 : decode cX5_fact 67 = .ok (.aload_n 0, 1) := dk_42 (dk_at dksX5_fact_2 19 rfl rfl)
theorem dX5_fact_68 : decode cX5_fact 68 = .ok (.iload_n 1, 1) := dk_27 (dk_at dksX5_fact_2 20 rfl rfl)
theorem dX5_fact_69 : decode cX5_fact 69 = .ok (.invokevirtual 109, 3) := dk_182 0 109 (dk_at dksX5_fact_2 21 rfl rfl)
theorem dX5_fact_72 : decode cX5_fact 72 = .ok (.aload_n 0, 1) := dk_42 (dk_at dksX5_fact_3 0 rfl rfl)
theorem dX5_fact_73 : decode cX5_fact 73 = .ok (.dup, 1) := dk_89 (dk_at dksX5_fact_3 1 rfl rfl)
theorem dX5_fact_74 : decode cX5_fact 74 = .ok (.getfield 23, 3) := dk_180 0 23 (dk_at dksX5_fact_3 2 rfl rfl)
theorem dX5_fact_77 : decode cX5_fact 77 = .ok (.iconst 1, 1) := dk_4 (dk_at dksX5_fact_3 5 rfl rfl)
theorem dX5_fact_78 : decode cX5_fact 78 = .ok (.iadd, 1) := dk_96 (dk_at dksX5_fact_3 6 rfl rfl)
theorem dX5_fact_79 : decode cX5_fact 79 = .ok (.putfield 23, 3) := dk_181 0 23 (dk_at dksX5_fact_3 7 rfl rfl)
theorem dX5_fact_82 : decode cX5_fact 82 = .ok (.aload_n 0, 1) := dk_42 (dk_at dksX5_fact_3 10 rfl rfl)
theorem dX5_fact_83 : decode cX5_fact 83 = .ok (.invokevirtual 121, 3) := dk_182 0 121 (dk_at dksX5_fact_3 11 rfl rfl)
theorem dX5_fact_86 : decode cX5_fact 86 = .ok (.astore_n 2, 1) := dk_77 (dk_at dksX5_fact_3 14 rfl rfl)
theorem dX5_fact_87 : decode cX5_fact 87 = .ok (.aload_n 0, 1) := dk_42 (dk_at dksX5_fact_3 15 rfl rfl)
theorem dX5_fact_88 : decode cX5_fact 88 = .ok (.invokevirtual 45, 3) := dk_182 0 45 (dk_at dksX5_fact_3 16 rfl rfl)
theorem dX5_fact_91 : decode cX5_fact 91 = .ok (.bipush 93, 2) := dk_16 93 (dk_at dksX5_fact_3 19 rfl rfl)
theorem dX5_fact_93 : decode cX5_fact 93 = .ok (.if_icmp .eq 16, 3) := dk_159 0 16 (dk_at dksX5_fact_3 21 rfl rfl)
theorem dX5_fact_96 : decode cX5_fact 96 = .ok (.aload_n 0, 1) := dk_42 (dk_at dksX5_fact_4 0 rfl rfl)
theorem dX5_fact_97 : decode cX5_fact 97 = .ok (.getfield 3, 3) := dk_180 0 3 (dk_at dksX5_fact_4 1 rfl rfl)
theorem dX5_fact_100 : decode cX5_fact 100 = .ok (.iconst 0, 1) := dk_3 (dk_at dksX5_fact_4 4 rfl rfl)
theorem dX5_fact_101 : decode cX5_fact 101 = .ok (.aload_n 0, 1) := dk_42 (dk_at dksX5_fact_4 5 rfl rfl)
theorem dX5_fact_102 : decode cX5_fact 102 = .ok (.getfield 23, 3) := dk_180 0 23 (dk_at dksX5_fact_4 6 rfl rfl)
theorem dX5_fact_105 : decode cX5_fact 105 = .ok (.invokevirtual 69, 3) := dk_182 0 69 (dk_at dksX5_fact_4 9 rfl rfl)
theorem dX5_fact_108 : decode cX5_fact 108 = .ok (.athrow, 1) := dk_191 (dk_at dksX5_fact_4 12 rfl rfl)
theorem dX5_fact_109 : decode cX5_fact 109 = .ok (.aload_n 0, 1) := dk_42 (dk_at dksX5_fact_4 13 rfl rfl)
theorem dX5_fact_110 : decode cX5_fact 110 = .ok (.dup, 1) := dk_89 (dk_at dksX5_fact_4 14 rfl rfl)
theorem dX5_fact_111 : decode cX5_fact 111 = .ok (.getfield 23, 3) := dk_180 0 23 (dk_at dksX5_fact_4 15 rfl rfl)
theorem dX5_fact_114 : decode cX5_fact 114 = .ok (.iconst 1, 1) := dk_4 (dk_at dksX5_fact_4 18 rfl rfl)
theorem dX5_fact_115 : decode cX5_fact 115 = .ok (.iadd, 1) := dk_96 (dk_at dksX5_fact_4 19 rfl rfl)
theorem dX5_fact_116 : decode cX5_fact 116 = .ok (.putfield 23, 3) := dk_181 0 23 (dk_at dksX5_fact_4 20 rfl rfl)
theorem dX5_fact_119 : decode cX5_fact 119 = .ok (.aload_n 0, 1) := dk_42 (dk_at dksX5_fact_4 23 rfl rfl)
theorem dX5_fact_120 : decode cX5_fact 120 = .ok (.dup, 1) := dk_89 (dk_at dksX5_fact_5 0 rfl rfl)
theorem dX5_fact_121 : decode cX5_fact 121 = .ok (.getfield 76, 3) := dk_180 0 76 (dk_at dksX5_fact_5 1 rfl rfl)
theorem dX5_fact_124 : decode cX5_fact 124 = .ok (.iconst 1, 1) := dk_4 (dk_at dksX5_fact_5 4 rfl rfl)
theorem dX5_fact_125 : decode cX5_fact 125 = .ok (.isub, 1) := dk_100 (dk_at dksX5_fact_5 5 rfl rfl)
theorem dX5_fact_126 : decode cX5_fact 126 = .ok (.putfield 76, 3) := dk_181 0 76 (dk_at dksX5_fact_5 6 rfl rfl)
theorem dX5_fact_129 : decode cX5_fact 129 = .ok (.aload_n 2, 1) := dk_44 (dk_at dksX5_fact_5 9 rfl rfl)
theorem dX5_fact_130 : decode cX5_fact 130 = .ok (.areturn, 1) := dk_176 (dk_at dksX5_fact_5 10 rfl rfl)
theorem dX5_fact_131 : decode cX5_fact 131 = .ok (.aload_n 0, 1) := dk_42 (dk_at dksX5_fact_5 11 rfl rfl)
theorem dX5_fact_132 : decode cX5_fact 132 = .ok (.invokevirtual 124, 3) := dk_182 0 124 (dk_at dksX5_fact_5 12 rfl rfl)
theorem dX5_fact_135 : decode cX5_fact 135 = .ok (.astore_n 2, 1) := dk_77 (dk_at dksX5_fact_5 15 rfl rfl)
theorem dX5_fact_136 : decode cX5_fact 136 = .ok (.aload_n 0, 1) := dk_42 (dk_at dksX5_fact_5 16 rfl rfl)
theorem dX5_fact_137 : decode cX5_fact 137 = .ok (.invokevirtual 45, 3) := dk_182 0 45 (dk_at dksX5_fact_5 17 rfl rfl)
theorem dX5_fact_140 : decode cX5_fact 140 = .ok (.istore_n 3, 1) := dk_62 (dk_at dksX5_fact_5 20 rfl rfl)
theorem dX5_fact_141 : decode cX5_fact 141 = .ok (.iload_n 3, 1) := dk_29 (dk_at dksX5_fact_5 21 rfl rfl)
theorem dX5_fact_142 : decode cX5_fact 142 = .ok (.bipush 60, 2) := dk_16 60 (dk_at dksX5_fact_5 22 rfl rfl)
theorem dX5_fact_144 : decode cX5_fact 144 = .ok (.if_icmp .eq 28, 3) := dk_159 0 28 (dk_at dksX5_fact_6 0 rfl rfl)
theorem dX5_fact_147 : decode cX5_fact 147 = .ok (.iload_n 3, 1) := dk_29 (dk_at dksX5_fact_6 3 rfl rfl)
theorem dX5_fact_148 : decode cX5_fact 148 = .ok (.bipush 61, 2) := dk_16 61 (dk_at dksX5_fact_6 4 rfl rfl)
theorem dX5_fact_150 : decode cX5_fact 150 = .ok (.if_icmp .eq 22, 3) := dk_159 0 22 (dk_at dksX5_fact_6 6 rfl rfl)
theorem dX5_fact_153 : decode cX5_fact 153 = .ok (.iload_n 3, 1) := dk_29 (dk_at dksX5_fact_6 9 rfl rfl)
theorem dX5_fact_154 : decode cX5_fact 154 = .ok (.bipush 62, 2) := dk_16 62 (dk_at dksX5_fact_6 10 rfl rfl)
theorem dX5_fact_156 : decode cX5_fact 156 = .ok (.if_icmp .eq 16, 3) := dk_159 0 16 (dk_at dksX5_fact_6 12 rfl rfl)
theorem dX5_fact_159 : decode cX5_fact 159 = .ok (.aload_n 0, 1) := dk_42 (dk_at dksX5_fact_6 15 rfl rfl)
theorem dX5_fact_160 : decode cX5_fact 160 = .ok (.getfield 3, 3) := dk_180 0 3 (dk_at dksX5_fact_6 16 rfl rfl)
theorem dX5_fact_163 : decode cX5_fact 163 = .ok (.iconst 0, 1) := dk_3 (dk_at dksX5_fact_6 19 rfl rfl)
theorem dX5_fact_164 : decode cX5_fact 164 = .ok (.aload_n 0, 1) := dk_42 (dk_at dksX5_fact_6 20 rfl rfl)
theorem dX5_fact_165 : decode cX5_fact 165 = .ok (.getfield 23, 3) := dk_180 0 23 (dk_at dksX5_fact_6 21 rfl rfl)
theorem dX5_fact_168 : decode cX5_fact 168 = .ok (.invokevirtual 69, 3) := dk_182 0 69 (dk_at dksX5_fact_7 0 rfl rfl)
theorem dX5_fact_171 : decode cX5_fact 171 = .ok (.athrow, 1) := dk_191 (dk_at dksX5_fact_7 3 rfl rfl)
theorem dX5_fact_172 : decode cX5_fact 172 = .ok (.aload_n 0, 1) := dk_42 (dk_at dksX5_fact_7 4 rfl rfl)
theorem dX5_fact_173 : decode cX5_fact 173 = .ok (.aload_n 0, 1) := dk_42 (dk_at dksX5_fact_7 5 rfl rfl)
theorem dX5_fact_174 : decode cX5_fact 174 = .ok (.getfield 23, 3) := dk_180 0 23 (dk_at dksX5_fact_7 6 rfl rfl)
theorem dX5_fact_177 : decode cX5_fact 177 = .ok (.invokevirtual 89, 3) := dk_182 0 89 (dk_at dksX5_fact_7 9 rfl rfl)
theorem dX5_fact_180 : decode cX5_fact 180 = .ok (.aload_n 0, 1) := dk_42 (dk_at dksX5_fact_7 12 rfl rfl)
theorem dX5_fact_181 : decode cX5_fact 181 = .ok (.dup, 1) := dk_89 (dk_at dksX5_fact_7 13 rfl rfl)
theorem dX5_fact_182 : decode cX5_fact 182 = .ok (.getfield 23, 3) := dk_180 0 23 (dk_at dksX5_fact_7 14 rfl rfl)
theorem dX5_fact_185 : decode cX5_fact 185 = .ok (.iconst 1, 1) := dk_4 (dk_at dksX5_fact_7 17 rfl rfl)
theorem dX5_fact_186 : decode cX5_fact 186 = .ok (.iadd, 1) := dk_96 (dk_at dksX5_fact_7 18 rfl rfl)
theorem dX5_fact_187 : decode cX5_fact 187 = .ok (.putfield 23, 3) := dk_181 0 23 (dk_at dksX5_fact_7 19 rfl rfl)
theorem dX5_fact_190 : decode cX5_fact 190 = .ok (.iload_n 3, 1) := dk_29 (dk_at dksX5_fact_7 22 rfl rfl)
theorem dX5_fact_191 : decode cX5_fact 191 = .ok (.bipush 61, 2) := dk_16 61 (dk_at dksX5_fact_8 0 rfl rfl)
theorem dX5_fact_193 : decode cX5_fact 193 = .ok (.if_icmp .eq 16, 3) := dk_159 0 16 (dk_at dksX5_fact_8 2 rfl rfl)
theorem dX5_fact_196 : decode cX5_fact 196 = .ok (.aload_n 0, 1) := dk_42 (dk_at dksX5_fact_8 5 rfl rfl)
theorem dX5_fact_197 : decode cX5_fact 197 = .ok (.invokevirtual 33, 3) := dk_182 0 33 (dk_at dksX5_fact_8 6 rfl rfl)
theorem dX5_fact_200 : decode cX5_fact 200 = .ok (.bipush 61, 2) := dk_16 61 (dk_at dksX5_fact_8 9 rfl rfl)
theorem dX5_fact_202 : decode cX5_fact 202 = .ok (.if_icmp .ne 7, 3) := dk_160 0 7 (dk_at dksX5_fact_8 11 rfl rfl)
theorem dX5_fact_205 : decode cX5_fact 205 = .ok (.iconst 1, 1) := dk_4 (dk_at dksX5_fact_8 14 rfl rfl)
theorem dX5_fact_206 : decode cX5_fact 206 = .ok (.goto 4, 3) := dk_167 0 4 (dk_at dksX5_fact_8 15 rfl rfl)
theorem dX5_fact_209 : decode cX5_fact 209 = .ok (.iconst 0, 1) := dk_3 (dk_at dksX5_fact_8 18 rfl rfl)
theorem dX5_fact_210 : decode cX5_fact 210 = .ok (.istore 4, 2) := dk_54 4 (dk_at dksX5_fact_8 19 rfl rfl)
theorem dX5_fact_212 : decode cX5_fact 212 = .ok (.aload_n 0, 1) := dk_42 (dk_at dksX5_fact_8 21 rfl rfl)
theorem dX5_fact_213 : decode cX5_fact 213 = .ok (.dup, 1) := dk_89 (dk_at dksX5_fact_8 22 rfl rfl)
theorem dX5_fact_214 : decode cX5_fact 214 = .ok (.getfield 23, 3) := dk_180 0 23 (dk_at dksX5_fact_9 0 rfl rfl)
theorem dX5_fact_217 : decode cX5_fact 217 = .ok (.iload 4, 2) := dk_21 4 (dk_at dksX5_fact_9 3 rfl rfl)
theorem dX5_fact_219 : decode cX5_fact 219 = .ok (.ifCond .eq 7, 3) := dk_153 0 7 (dk_at dksX5_fact_9 5 rfl rfl)
theorem dX5_fact_222 : decode cX5_fact 222 = .ok (.iconst 1, 1) := dk_4 (dk_at dksX5_fact_9 8 rfl rfl)
theorem dX5_fact_223 : decode cX5_fact 223 = .ok (.goto 4, 3) := dk_167 0 4 (dk_at dksX5_fact_9 9 rfl rfl)
theorem dX5_fact_226 : decode cX5_fact 226 = .ok (.iconst 0, 1) := dk_3 (dk_at dksX5_fact_9 12 rfl rfl)
theorem dX5_fact_227 : decode cX5_fact 227 = .ok (.iadd, 1) := dk_96 (dk_at dksX5_fact_9 13 rfl rfl)
theorem dX5_fact_228 : decode cX5_fact 228 = .ok (.putfield 23, 3) := dk_181 0 23 (dk_at dksX5_fact_9 14 rfl rfl)
theorem dX5_fact_231 : decode cX5_fact 231 = .ok (.new 127, 3) := dk_187 0 127 (dk_at dksX5_fact_9 17 rfl rfl)
theorem dX5_fact_234 : decode cX5_fact 234 = .ok (.dup, 1) := dk_89 (dk_at dksX5_fact_9 20 rfl rfl)
theorem dX5_fact_235 : decode cX5_fact 235 = .ok (.aload_n 2, 1) := dk_44 (dk_at dksX5_fact_9 21 rfl rfl)
theorem dX5_fact_236 : decode cX5_fact 236 = .ok (.aload_n 0, 1) := dk_42 (dk_at dksX5_fact_9 22 rfl rfl)
theorem dX5_fact_237 : decode cX5_fact 237 = .ok (.invokevirtual 124, 3) := dk_182 0 124 (dk_at dksX5_fact_10 0 rfl rfl)
theorem dX5_fact_240 : decode cX5_fact 240 = .ok (.iload_n 3, 1) := dk_29 (dk_at dksX5_fact_10 3 rfl rfl)
theorem dX5_fact_241 : decode cX5_fact 241 = .ok (.iload 4, 2) := dk_21 4 (dk_at dksX5_fact_10 4 rfl rfl)
theorem dX5_fact_243 : decode cX5_fact 243 = .ok (.invokespecial 129, 3) := dk_183 0 129 (dk_at dksX5_fact_10 6 rfl rfl)
theorem dX5_fact_246 : decode cX5_fact 246 = .ok (.areturn, 1) := dk_176 (dk_at dksX5_fact_10 9 rfl rfl)
abbrev cX5_goesDeeper : ByteArray := prog_11_method_9_code
def yX5_goesDeeper : MethodName := ⟨RX5, "goesDeeper", "(I)V"⟩
def dkwX5_goesDeeper_1 : List UInt8 := [4, 96, 181, 0, 76, 177]
abbrev dktX5_goesDeeper_1 : List UInt8 := dkwX5_goesDeeper_1 ++ []
def dkwX5_goesDeeper_0 : List UInt8 := [42, 180, 0, 76, 16, 10, 160, 0, 13, 42, 180, 0, 3, 5, 27, 182, 0, 69, 191, 42, 89, 180, 0, 76]
abbrev dktX5_goesDeeper_0 : List UInt8 := dkwX5_goesDeeper_0 ++ dktX5_goesDeeper_1
theorem dksX5_goesDeeper_0 : cX5_goesDeeper.data.toList.drop 0 = dktX5_goesDeeper_0 := by decide +kernel
theorem dksX5_goesDeeper_1 : cX5_goesDeeper.data.toList.drop 24 = dktX5_goesDeeper_1 := dk_seg dksX5_goesDeeper_0 24 rfl rfl
theorem dX5_goesDeeper_0 : decode cX5_goesDeeper 0 = .ok (.aload_n 0, 1) := dk_42 (dk_at dksX5_goesDeeper_0 0 rfl rfl)
theorem dX5_goesDeeper_1 : decode cX5_goesDeeper 1 = .ok (.getfield 76, 3) := dk_180 0 76 (dk_at dksX5_goesDeeper_0 1 rfl rfl)
theorem dX5_goesDeeper_4 : decode cX5_goesDeeper 4 = .ok (.bipush 10, 2) := dk_16 10 (dk_at dksX5_goesDeeper_0 4 rfl rfl)
theorem dX5_goesDeeper_6 : decode cX5_goesDeeper 6 = .ok (.if_icmp .ne 13, 3) := dk_160 0 13 (dk_at dksX5_goesDeeper_0 6 rfl rfl)
theorem dX5_goesDeeper_9 : decode cX5_goesDeeper 9 = .ok (.aload_n 0, 1) := dk_42 (dk_at dksX5_goesDeeper_0 9 rfl rfl)
theorem dX5_goesDeeper_10 : decode cX5_goesDeeper 10 = .ok (.getfield 3, 3) := dk_180 0 3 (dk_at dksX5_goesDeeper_0 10 rfl rfl)
theorem dX5_goesDeeper_13 : decode cX5_goesDeeper 13 = .ok (.iconst 2, 1) := dk_5 (dk_at dksX5_goesDeeper_0 13 rfl rfl)
theorem dX5_goesDeeper_14 : decode cX5_goesDeeper 14 = .ok (.iload_n 1, 1) := dk_27 (dk_at dksX5_goesDeeper_0 14 rfl rfl)
theorem dX5_goesDeeper_15 : decode cX5_goesDeeper 15 = .ok (.invokevirtual 69, 3) := dk_182 0 69 (dk_at dksX5_goesDeeper_0 15 rfl rfl)
theorem dX5_goesDeeper_18 : decode cX5_goesDeeper 18 = .ok (.athrow, 1) := dk_191 (dk_at dksX5_goesDeeper_0 18 rfl rfl)
theorem dX5_goesDeeper_19 : decode cX5_goesDeeper 19 = .ok (.aload_n 0, 1) := dk_42 (dk_at dksX5_goesDeeper_0 19 rfl rfl)
theorem dX5_goesDeeper_20 : decode cX5_goesDeeper 20 = .ok (.dup, 1) := dk_89 (dk_at dksX5_goesDeeper_0 20 rfl rfl)
theorem dX5_goesDeeper_21 : decode cX5_goesDeeper 21 = .ok (.getfield 76, 3) := dk_180 0 76 (dk_at dksX5_goesDeeper_0 21 rfl rfl)
theorem dX5_goesDeeper_24 : decode cX5_goesDeeper 24 = .ok (.iconst 1, 1) := dk_4 (dk_at dksX5_goesDeeper_1 0 rfl rfl)
theorem dX5_goesDeeper_25 : decode cX5_goesDeeper 25 = .ok (.iadd, 1) := dk_96 (dk_at dksX5_goesDeeper_1 1 rfl rfl)
theorem dX5_goesDeeper_26 : decode cX5_goesDeeper 26 = .ok (.putfield 76, 3) := dk_181 0 76 (dk_at dksX5_goesDeeper_1 2 rfl rfl)
theorem dX5_goesDeeper_29 : decode cX5_goesDeeper 29 = .ok (.return_, 1) := dk_177 (dk_at dksX5_goesDeeper_1 5 rfl rfl)
theorem q160 : (Jvm.Cond.initialized "OutwardDoors$Parser") ∈ lw_all := lw_g (lw_at lw_m1 11 rfl) rfl
theorem q229 : (Jvm.Cond.fieldLinkNest "OutwardDoors$Parser" (184 : Nat) "OutwardDoors$Castle" "people" "Ljava/util/ArrayList;" "OutwardDoors") ∈ lw_tbl := lw_at lw_m1 80 rfl
theorem q233 : (Jvm.Cond.fieldLinkNest "OutwardDoors$Parser" (163 : Nat) "OutwardDoors$Castle" "doors" "Ljava/util/ArrayList;" "OutwardDoors") ∈ lw_tbl := lw_at lw_m1 84 rfl
theorem q235 : (Jvm.Cond.fieldLinkNest "OutwardDoors$Parser" (203 : Nat) "OutwardDoors$Castle" "far" "[I" "OutwardDoors") ∈ lw_tbl := lw_at lw_m1 86 rfl
theorem q238 : (Jvm.Cond.fieldLinkNest "OutwardDoors$Parser" (150 : Nat) "OutwardDoors$Castle" "rooms" "I" "OutwardDoors") ∈ lw_tbl := lw_at lw_m1 89 rfl
theorem q240 : (Jvm.Cond.fieldLinkNest "OutwardDoors$Parser" (181 : Nat) "OutwardDoors$Castle" "nightFrom" "I" "OutwardDoors") ∈ lw_tbl := lw_at lw_m1 91 rfl
theorem q242 : (Jvm.Cond.fieldLinkNest "OutwardDoors$Parser" (178 : Nat) "OutwardDoors$Castle" "nightTo" "I" "OutwardDoors") ∈ lw_tbl := lw_at lw_m1 93 rfl
theorem q364 : (Jvm.Cond.fieldLinkNest "OutwardDoors$Parser" (250 : Nat) "OutwardDoors" "rules" "Ljava/util/ArrayList;" "OutwardDoors") ∈ lw_tbl := lw_at lw_m1 215 rfl
theorem q368 : (Jvm.Cond.fieldLinkNest "OutwardDoors$Parser" (29 : Nat) "OutwardDoors" "tape" "[B" "OutwardDoors") ∈ lw_tbl := lw_at lw_m1 219 rfl
theorem q370 : (Jvm.Cond.fieldLinkNest "OutwardDoors$Parser" (26 : Nat) "OutwardDoors" "taped" "I" "OutwardDoors") ∈ lw_tbl := lw_at lw_m1 221 rfl
theorem q487 : (Jvm.Cond.instantiable "OutwardDoors$Parser" (7 : Nat)) ∈ lw_all := lw_g (lw_at lw_m2 98 rfl) rfl
theorem q489 : (Jvm.Cond.instanceMethod ({ cls := "OutwardDoors$Parser", name := "<init>", desc := "(LOutwardDoors;[Ljava/lang/String;I)V" } : Jvm.MethodName)) ∈ lw_all := lw_g (lw_at lw_m2 100 rfl) rfl
theorem q490 : (Jvm.Cond.code ({ cls := "OutwardDoors$Parser", name := "<init>", desc := "(LOutwardDoors;[Ljava/lang/String;I)V" } : Jvm.MethodName) prog_11_method_1_code (4 : Nat) (Option.none : Option Jvm.ClassFile.FieldType)) ∈ lw_all := lw_g (lw_at lw_m2 101 rfl) rfl
theorem q491 : (Jvm.Cond.methodLink "OutwardDoors$Parser" (9 : Nat) ({ cls := "java/lang/Object", name := "<init>", desc := "()V" } : Jvm.MethodName)) ∈ lw_all := lw_g (lw_at lw_m2 102 rfl) rfl
theorem q492 : (Jvm.Cond.fieldLink "OutwardDoors$Parser" (15 : Nat) "OutwardDoors$Parser" "names" "[Ljava/lang/String;") ∈ lw_all := lw_g (lw_at lw_m2 103 rfl) rfl
theorem q493 : (Jvm.Cond.fieldLink "OutwardDoors$Parser" (23 : Nat) "OutwardDoors$Parser" "at" "I") ∈ lw_all := lw_g (lw_at lw_m2 104 rfl) rfl
theorem q494 : (Jvm.Cond.fieldLink "OutwardDoors$Parser" (76 : Nat) "OutwardDoors$Parser" "deep" "I") ∈ lw_all := lw_g (lw_at lw_m2 105 rfl) rfl
theorem q495 : (Jvm.Cond.fieldLink "OutwardDoors$Parser" (73 : Nat) "OutwardDoors$Parser" "counted" "I") ∈ lw_all := lw_g (lw_at lw_m2 106 rfl) rfl
theorem q496 : (Jvm.Cond.fieldLink "OutwardDoors$Parser" (147 : Nat) "OutwardDoors$Parser" "clauses" "I") ∈ lw_all := lw_g (lw_at lw_m2 107 rfl) rfl
theorem q497 : (Jvm.Cond.fieldLink "OutwardDoors$Parser" (19 : Nat) "OutwardDoors$Parser" "most" "I") ∈ lw_all := lw_g (lw_at lw_m2 108 rfl) rfl
theorem q498 : (Jvm.Cond.fieldLink "OutwardDoors$Parser" (3 : Nat) "OutwardDoors$Parser" "this$0" "LOutwardDoors;") ∈ lw_all := lw_g (lw_at lw_m2 109 rfl) rfl
theorem q499 : (Jvm.Cond.laysFinal "OutwardDoors$Parser" "OutwardDoors$Parser" "names" "[Ljava/lang/String;") ∈ lw_all := lw_g (lw_at lw_m2 110 rfl) rfl
theorem q500 : (Jvm.Cond.soleField "OutwardDoors$Parser" "names") ∈ lw_all := lw_g (lw_at lw_m2 111 rfl) rfl
theorem q501 : (Jvm.Cond.lays "OutwardDoors$Parser" "OutwardDoors$Parser" "at" "I") ∈ lw_all := lw_g (lw_at lw_m2 112 rfl) rfl
theorem q502 : (Jvm.Cond.soleField "OutwardDoors$Parser" "at") ∈ lw_all := lw_g (lw_at lw_m2 113 rfl) rfl
theorem q503 : (Jvm.Cond.lays "OutwardDoors$Parser" "OutwardDoors$Parser" "deep" "I") ∈ lw_all := lw_g (lw_at lw_m2 114 rfl) rfl
theorem q504 : (Jvm.Cond.soleField "OutwardDoors$Parser" "deep") ∈ lw_all := lw_g (lw_at lw_m2 115 rfl) rfl
theorem q505 : (Jvm.Cond.lays "OutwardDoors$Parser" "OutwardDoors$Parser" "counted" "I") ∈ lw_all := lw_g (lw_at lw_m2 116 rfl) rfl
theorem q506 : (Jvm.Cond.soleField "OutwardDoors$Parser" "counted") ∈ lw_all := lw_g (lw_at lw_m2 117 rfl) rfl
theorem q507 : (Jvm.Cond.lays "OutwardDoors$Parser" "OutwardDoors$Parser" "clauses" "I") ∈ lw_all := lw_g (lw_at lw_m2 118 rfl) rfl
theorem q508 : (Jvm.Cond.soleField "OutwardDoors$Parser" "clauses") ∈ lw_all := lw_g (lw_at lw_m2 119 rfl) rfl
theorem q509 : (Jvm.Cond.laysFinal "OutwardDoors$Parser" "OutwardDoors$Parser" "most" "I") ∈ lw_all := lw_g (lw_at lw_m2 120 rfl) rfl
theorem q510 : (Jvm.Cond.soleField "OutwardDoors$Parser" "most") ∈ lw_all := lw_g (lw_at lw_m2 121 rfl) rfl
theorem q511 : (Jvm.Cond.laysFinal "OutwardDoors$Parser" "OutwardDoors$Parser" "this$0" "LOutwardDoors;") ∈ lw_all := lw_g (lw_at lw_m2 122 rfl) rfl
theorem q512 : (Jvm.Cond.soleField "OutwardDoors$Parser" "this$0") ∈ lw_all := lw_g (lw_at lw_m2 123 rfl) rfl
theorem q513 : (Jvm.Cond.superclass "OutwardDoors$Parser" "java/lang/Object") ∈ lw_all := lw_g (lw_at lw_m2 124 rfl) rfl
theorem q515 : (Jvm.Cond.instanceMethod ({ cls := "OutwardDoors$Parser", name := "castle", desc := "()LOutwardDoors$Castle;" } : Jvm.MethodName)) ∈ lw_all := lw_g (lw_at lw_m2 126 rfl) rfl
theorem q516 : (Jvm.Cond.selects "OutwardDoors$Parser" ({ cls := "OutwardDoors$Parser", name := "castle", desc := "()LOutwardDoors$Castle;" } : Jvm.MethodName) ({ cls := "OutwardDoors$Parser", name := "castle", desc := "()LOutwardDoors$Castle;" } : Jvm.MethodName)) ∈ lw_all := lw_g (lw_at lw_m2 127 rfl) rfl
theorem q517 : (Jvm.Cond.code ({ cls := "OutwardDoors$Parser", name := "castle", desc := "()LOutwardDoors$Castle;" } : Jvm.MethodName) prog_11_method_24_code (2 : Nat) (Option.some (Jvm.ClassFile.FieldType.object "OutwardDoors$Castle"))) ∈ lw_all := lw_g (lw_at lw_m2 128 rfl) rfl
theorem q518 : (Jvm.Cond.classLink "OutwardDoors$Parser" (151 : Nat) "OutwardDoors$Castle") ∈ lw_all := lw_g (lw_at lw_m2 129 rfl) rfl
theorem q519 : (Jvm.Cond.methodLink "OutwardDoors$Parser" (239 : Nat) ({ cls := "OutwardDoors$Castle", name := "<init>", desc := "()V" } : Jvm.MethodName)) ∈ lw_all := lw_g (lw_at lw_m2 130 rfl) rfl
theorem q520 : (Jvm.Cond.methodLink "OutwardDoors$Parser" (240 : Nat) ({ cls := "OutwardDoors$Parser", name := "clause", desc := "(LOutwardDoors$Castle;)V" } : Jvm.MethodName)) ∈ lw_all := lw_g (lw_at lw_m2 131 rfl) rfl
theorem q521 : (Jvm.Cond.privateMethod ({ cls := "OutwardDoors$Parser", name := "clause", desc := "(LOutwardDoors$Castle;)V" } : Jvm.MethodName)) ∈ lw_tbl := lw_at lw_m2 132 rfl
theorem q522 : (Jvm.Cond.instanceMethod ({ cls := "OutwardDoors$Parser", name := "clause", desc := "(LOutwardDoors$Castle;)V" } : Jvm.MethodName)) ∈ lw_all := lw_g (lw_at lw_m2 133 rfl) rfl
theorem q523 : (Jvm.Cond.code ({ cls := "OutwardDoors$Parser", name := "clause", desc := "(LOutwardDoors$Castle;)V" } : Jvm.MethodName) prog_11_method_21_code (5 : Nat) (Option.none : Option Jvm.ClassFile.FieldType)) ∈ lw_all := lw_g (lw_at lw_m2 134 rfl) rfl
theorem q524 : (Jvm.Cond.methodLink "OutwardDoors$Parser" (192 : Nat) ({ cls := "java/util/ArrayList", name := "size", desc := "()I" } : Jvm.MethodName)) ∈ lw_all := lw_g (lw_at lw_m2 135 rfl) rfl
theorem q528 : (Jvm.Cond.stringRef "OutwardDoors$Parser" (195 : Nat) "castle") ∈ lw_tbl := lw_at lw_m2 139 rfl
theorem q529 : (Jvm.Cond.methodLink "OutwardDoors$Parser" (197 : Nat) ({ cls := "OutwardDoors$Parser", name := "begins", desc := "(Ljava/lang/String;Z)Z" } : Jvm.MethodName)) ∈ lw_all := lw_g (lw_at lw_m2 140 rfl) rfl
theorem q530 : (Jvm.Cond.privateMethod ({ cls := "OutwardDoors$Parser", name := "begins", desc := "(Ljava/lang/String;Z)Z" } : Jvm.MethodName)) ∈ lw_tbl := lw_at lw_m2 141 rfl
theorem q531 : (Jvm.Cond.instanceMethod ({ cls := "OutwardDoors$Parser", name := "begins", desc := "(Ljava/lang/String;Z)Z" } : Jvm.MethodName)) ∈ lw_all := lw_g (lw_at lw_m2 142 rfl) rfl
theorem q532 : (Jvm.Cond.code ({ cls := "OutwardDoors$Parser", name := "begins", desc := "(Ljava/lang/String;Z)Z" } : Jvm.MethodName) prog_11_method_16_code (3 : Nat) (Option.some Jvm.ClassFile.FieldType.boolean)) ∈ lw_all := lw_g (lw_at lw_m2 143 rfl) rfl
theorem q533 : (Jvm.Cond.methodLink "OutwardDoors$Parser" (61 : Nat) ({ cls := "OutwardDoors$Parser", name := "isWord", desc := "(Ljava/lang/String;)Z" } : Jvm.MethodName)) ∈ lw_all := lw_g (lw_at lw_m2 144 rfl) rfl
theorem q534 : (Jvm.Cond.privateMethod ({ cls := "OutwardDoors$Parser", name := "isWord", desc := "(Ljava/lang/String;)Z" } : Jvm.MethodName)) ∈ lw_tbl := lw_at lw_m2 145 rfl
theorem q535 : (Jvm.Cond.instanceMethod ({ cls := "OutwardDoors$Parser", name := "isWord", desc := "(Ljava/lang/String;)Z" } : Jvm.MethodName)) ∈ lw_all := lw_g (lw_at lw_m2 146 rfl) rfl
theorem q536 : (Jvm.Cond.code ({ cls := "OutwardDoors$Parser", name := "isWord", desc := "(Ljava/lang/String;)Z" } : Jvm.MethodName) prog_11_method_5_code (5 : Nat) (Option.some Jvm.ClassFile.FieldType.boolean)) ∈ lw_all := lw_g (lw_at lw_m2 147 rfl) rfl
theorem q537 : (Jvm.Cond.methodLink "OutwardDoors$Parser" (45 : Nat) ({ cls := "OutwardDoors$Parser", name := "next", desc := "()I" } : Jvm.MethodName)) ∈ lw_all := lw_g (lw_at lw_m2 148 rfl) rfl
theorem q538 : (Jvm.Cond.privateMethod ({ cls := "OutwardDoors$Parser", name := "next", desc := "()I" } : Jvm.MethodName)) ∈ lw_tbl := lw_at lw_m2 149 rfl
theorem q539 : (Jvm.Cond.instanceMethod ({ cls := "OutwardDoors$Parser", name := "next", desc := "()I" } : Jvm.MethodName)) ∈ lw_all := lw_g (lw_at lw_m2 150 rfl) rfl
theorem q540 : (Jvm.Cond.code ({ cls := "OutwardDoors$Parser", name := "next", desc := "()I" } : Jvm.MethodName) prog_11_method_3_code (1 : Nat) (Option.some Jvm.ClassFile.FieldType.int)) ∈ lw_all := lw_g (lw_at lw_m2 151 rfl) rfl
theorem q541 : (Jvm.Cond.methodLink "OutwardDoors$Parser" (33 : Nat) ({ cls := "OutwardDoors$Parser", name := "sign", desc := "()I" } : Jvm.MethodName)) ∈ lw_all := lw_g (lw_at lw_m2 152 rfl) rfl
theorem q542 : (Jvm.Cond.privateMethod ({ cls := "OutwardDoors$Parser", name := "sign", desc := "()I" } : Jvm.MethodName)) ∈ lw_tbl := lw_at lw_m2 153 rfl
theorem q543 : (Jvm.Cond.instanceMethod ({ cls := "OutwardDoors$Parser", name := "sign", desc := "()I" } : Jvm.MethodName)) ∈ lw_all := lw_g (lw_at lw_m2 154 rfl) rfl
theorem q544 : (Jvm.Cond.code ({ cls := "OutwardDoors$Parser", name := "sign", desc := "()I" } : Jvm.MethodName) prog_11_method_2_code (1 : Nat) (Option.some Jvm.ClassFile.FieldType.int)) ∈ lw_all := lw_g (lw_at lw_m2 155 rfl) rfl
theorem q545 : (Jvm.Cond.constantLong "OutwardDoors$Parser" (48 : Nat) (97 : Int64)) ∈ lw_all := lw_g (lw_at lw_m2 156 rfl) rfl
theorem q546 : (Jvm.Cond.constantLong "OutwardDoors$Parser" (50 : Nat) (122 : Int64)) ∈ lw_all := lw_g (lw_at lw_m2 157 rfl) rfl
theorem q547 : (Jvm.Cond.methodLinkNest "OutwardDoors$Parser" (41 : Nat) ({ cls := "OutwardDoors", name := "in", desc := "(JJJ)Z" } : Jvm.MethodName) "OutwardDoors") ∈ lw_tbl := lw_at lw_m2 158 rfl
theorem q550 : (Jvm.Cond.methodLink "OutwardDoors$Parser" (52 : Nat) ({ cls := "java/lang/String", name := "length", desc := "()I" } : Jvm.MethodName)) ∈ lw_all := lw_g (lw_at lw_m2 161 rfl) rfl
theorem q560 : (Jvm.Cond.methodLink "OutwardDoors$Parser" (57 : Nat) ({ cls := "java/lang/String", name := "charAt", desc := "(I)C" } : Jvm.MethodName)) ∈ lw_all := lw_g (lw_at lw_m2 171 rfl) rfl
theorem q598 : (Jvm.Cond.methodLinkNest "OutwardDoors$Parser" (69 : Nat) ({ cls := "OutwardDoors", name := "fails", desc := "(II)LOutwardDoors$Wrong;" } : Jvm.MethodName) "OutwardDoors") ∈ lw_tbl := lw_at lw_m2 209 rfl
theorem q602 : (Jvm.Cond.methodLink "OutwardDoors$Parser" (82 : Nat) ({ cls := "OutwardDoors$Parser", name := "number", desc := "(II)I" } : Jvm.MethodName)) ∈ lw_all := lw_g (lw_at lw_m2 213 rfl) rfl
theorem q603 : (Jvm.Cond.privateMethod ({ cls := "OutwardDoors$Parser", name := "number", desc := "(II)I" } : Jvm.MethodName)) ∈ lw_tbl := lw_at lw_m2 214 rfl
theorem q604 : (Jvm.Cond.instanceMethod ({ cls := "OutwardDoors$Parser", name := "number", desc := "(II)I" } : Jvm.MethodName)) ∈ lw_all := lw_g (lw_at lw_m2 215 rfl) rfl
theorem q605 : (Jvm.Cond.code ({ cls := "OutwardDoors$Parser", name := "number", desc := "(II)I" } : Jvm.MethodName) prog_11_method_7_code (5 : Nat) (Option.some Jvm.ClassFile.FieldType.int)) ∈ lw_all := lw_g (lw_at lw_m2 216 rfl) rfl
theorem q606 : (Jvm.Cond.methodLink "OutwardDoors$Parser" (65 : Nat) ({ cls := "OutwardDoors$Parser", name := "isDigit", desc := "()Z" } : Jvm.MethodName)) ∈ lw_all := lw_g (lw_at lw_m2 217 rfl) rfl
theorem q607 : (Jvm.Cond.privateMethod ({ cls := "OutwardDoors$Parser", name := "isDigit", desc := "()Z" } : Jvm.MethodName)) ∈ lw_tbl := lw_at lw_m2 218 rfl
theorem q608 : (Jvm.Cond.instanceMethod ({ cls := "OutwardDoors$Parser", name := "isDigit", desc := "()Z" } : Jvm.MethodName)) ∈ lw_all := lw_g (lw_at lw_m2 219 rfl) rfl
theorem q609 : (Jvm.Cond.code ({ cls := "OutwardDoors$Parser", name := "isDigit", desc := "()Z" } : Jvm.MethodName) prog_11_method_4_code (1 : Nat) (Option.some Jvm.ClassFile.FieldType.boolean)) ∈ lw_all := lw_g (lw_at lw_m2 220 rfl) rfl
theorem q610 : (Jvm.Cond.constantLong "OutwardDoors$Parser" (37 : Nat) (48 : Int64)) ∈ lw_all := lw_g (lw_at lw_m2 221 rfl) rfl
theorem q611 : (Jvm.Cond.constantLong "OutwardDoors$Parser" (39 : Nat) (57 : Int64)) ∈ lw_all := lw_g (lw_at lw_m2 222 rfl) rfl
theorem q612 : (Jvm.Cond.stringRef "OutwardDoors$Parser" (201 : Nat) "far") ∈ lw_tbl := lw_at lw_m2 223 rfl
theorem q613 : (Jvm.Cond.methodLink "OutwardDoors$Parser" (155 : Nat) ({ cls := "OutwardDoors$Parser", name := "one", desc := "(LOutwardDoors$Castle;)I" } : Jvm.MethodName)) ∈ lw_all := lw_g (lw_at lw_m2 224 rfl) rfl
theorem q614 : (Jvm.Cond.privateMethod ({ cls := "OutwardDoors$Parser", name := "one", desc := "(LOutwardDoors$Castle;)I" } : Jvm.MethodName)) ∈ lw_tbl := lw_at lw_m2 225 rfl
theorem q615 : (Jvm.Cond.instanceMethod ({ cls := "OutwardDoors$Parser", name := "one", desc := "(LOutwardDoors$Castle;)I" } : Jvm.MethodName)) ∈ lw_all := lw_g (lw_at lw_m2 226 rfl) rfl
theorem q616 : (Jvm.Cond.code ({ cls := "OutwardDoors$Parser", name := "one", desc := "(LOutwardDoors$Castle;)I" } : Jvm.MethodName) prog_11_method_17_code (2 : Nat) (Option.some Jvm.ClassFile.FieldType.int)) ∈ lw_all := lw_g (lw_at lw_m2 227 rfl) rfl
theorem q617 : (Jvm.Cond.stringRef "OutwardDoors$Parser" (206 : Nat) "door") ∈ lw_tbl := lw_at lw_m2 228 rfl
theorem q618 : (Jvm.Cond.methodLink "OutwardDoors$Parser" (208 : Nat) ({ cls := "OutwardDoors$Parser", name := "door", desc := "(LOutwardDoors$Castle;Z)V" } : Jvm.MethodName)) ∈ lw_all := lw_g (lw_at lw_m2 229 rfl) rfl
theorem q619 : (Jvm.Cond.privateMethod ({ cls := "OutwardDoors$Parser", name := "door", desc := "(LOutwardDoors$Castle;Z)V" } : Jvm.MethodName)) ∈ lw_tbl := lw_at lw_m2 230 rfl
theorem q620 : (Jvm.Cond.instanceMethod ({ cls := "OutwardDoors$Parser", name := "door", desc := "(LOutwardDoors$Castle;Z)V" } : Jvm.MethodName)) ∈ lw_all := lw_g (lw_at lw_m2 231 rfl) rfl
theorem q621 : (Jvm.Cond.code ({ cls := "OutwardDoors$Parser", name := "door", desc := "(LOutwardDoors$Castle;Z)V" } : Jvm.MethodName) prog_11_method_18_code (6 : Nat) (Option.none : Option Jvm.ClassFile.FieldType)) ∈ lw_all := lw_g (lw_at lw_m2 232 rfl) rfl
theorem q622 : (Jvm.Cond.methodLink "OutwardDoors$Parser" (159 : Nat) ({ cls := "OutwardDoors$Castle", name := "isJoined", desc := "(II)Z" } : Jvm.MethodName)) ∈ lw_all := lw_g (lw_at lw_m2 233 rfl) rfl
theorem q644 : (Jvm.Cond.classLink "OutwardDoors$Parser" (167 : Nat) "OutwardDoors$Door") ∈ lw_all := lw_g (lw_at lw_m3 15 rfl) rfl
theorem q646 : (Jvm.Cond.methodLinkNest "OutwardDoors$Parser" (169 : Nat) ({ cls := "OutwardDoors$Door", name := "<init>", desc := "(IIZ)V" } : Jvm.MethodName) "OutwardDoors") ∈ lw_tbl := lw_at lw_m3 17 rfl
theorem q667 : (Jvm.Cond.methodLink "OutwardDoors$Parser" (172 : Nat) ({ cls := "java/util/ArrayList", name := "add", desc := "(Ljava/lang/Object;)Z" } : Jvm.MethodName)) ∈ lw_all := lw_g (lw_at lw_m3 38 rfl) rfl
theorem q710 : (Jvm.Cond.selects "OutwardDoors$Parser" ({ cls := "java/lang/Object", name := "getClass", desc := "()Ljava/lang/Class;" } : Jvm.MethodName) ({ cls := "java/lang/Object", name := "getClass", desc := "()Ljava/lang/Class;" } : Jvm.MethodName)) ∈ lw_all := lw_g (lw_at lw_m3 81 rfl) rfl
theorem q732 : (Jvm.Cond.stringRef "OutwardDoors$Parser" (211 : Nat) "window") ∈ lw_tbl := lw_at lw_m3 103 rfl
theorem q733 : (Jvm.Cond.stringRef "OutwardDoors$Parser" (213 : Nat) "night") ∈ lw_tbl := lw_at lw_m3 104 rfl
theorem q734 : (Jvm.Cond.methodLink "OutwardDoors$Parser" (215 : Nat) ({ cls := "OutwardDoors$Parser", name := "night", desc := "(LOutwardDoors$Castle;)V" } : Jvm.MethodName)) ∈ lw_all := lw_g (lw_at lw_m3 105 rfl) rfl
theorem q735 : (Jvm.Cond.privateMethod ({ cls := "OutwardDoors$Parser", name := "night", desc := "(LOutwardDoors$Castle;)V" } : Jvm.MethodName)) ∈ lw_tbl := lw_at lw_m3 106 rfl
theorem q736 : (Jvm.Cond.instanceMethod ({ cls := "OutwardDoors$Parser", name := "night", desc := "(LOutwardDoors$Castle;)V" } : Jvm.MethodName)) ∈ lw_all := lw_g (lw_at lw_m3 107 rfl) rfl
theorem q737 : (Jvm.Cond.code ({ cls := "OutwardDoors$Parser", name := "night", desc := "(LOutwardDoors$Castle;)V" } : Jvm.MethodName) prog_11_method_19_code (3 : Nat) (Option.none : Option Jvm.ClassFile.FieldType)) ∈ lw_all := lw_g (lw_at lw_m3 108 rfl) rfl
theorem q738 : (Jvm.Cond.stringRef "OutwardDoors$Parser" (218 : Nat) "person") ∈ lw_tbl := lw_at lw_m3 109 rfl
theorem q739 : (Jvm.Cond.methodLink "OutwardDoors$Parser" (220 : Nat) ({ cls := "OutwardDoors$Castle", name := "many", desc := "()I" } : Jvm.MethodName)) ∈ lw_all := lw_g (lw_at lw_m3 110 rfl) rfl
theorem q743 : (Jvm.Cond.methodLink "OutwardDoors$Parser" (223 : Nat) ({ cls := "OutwardDoors$Parser", name := "person", desc := "(LOutwardDoors$Castle;)V" } : Jvm.MethodName)) ∈ lw_all := lw_g (lw_at lw_m3 114 rfl) rfl
theorem q744 : (Jvm.Cond.privateMethod ({ cls := "OutwardDoors$Parser", name := "person", desc := "(LOutwardDoors$Castle;)V" } : Jvm.MethodName)) ∈ lw_tbl := lw_at lw_m3 115 rfl
theorem q745 : (Jvm.Cond.instanceMethod ({ cls := "OutwardDoors$Parser", name := "person", desc := "(LOutwardDoors$Castle;)V" } : Jvm.MethodName)) ∈ lw_all := lw_g (lw_at lw_m3 116 rfl) rfl
theorem q746 : (Jvm.Cond.code ({ cls := "OutwardDoors$Parser", name := "person", desc := "(LOutwardDoors$Castle;)V" } : Jvm.MethodName) prog_11_method_20_code (4 : Nat) (Option.none : Option Jvm.ClassFile.FieldType)) ∈ lw_all := lw_g (lw_at lw_m3 117 rfl) rfl
theorem q747 : (Jvm.Cond.classLink "OutwardDoors$Parser" (187 : Nat) "OutwardDoors$Person") ∈ lw_all := lw_g (lw_at lw_m3 118 rfl) rfl
theorem q749 : (Jvm.Cond.methodLinkNest "OutwardDoors$Parser" (189 : Nat) ({ cls := "OutwardDoors$Person", name := "<init>", desc := "(III)V" } : Jvm.MethodName) "OutwardDoors") ∈ lw_tbl := lw_at lw_m3 120 rfl
theorem q766 : (Jvm.Cond.methodLink "OutwardDoors$Parser" (243 : Nat) ({ cls := "OutwardDoors$Parser", name := "goesOn", desc := "()Z" } : Jvm.MethodName)) ∈ lw_all := lw_g (lw_at lw_m3 137 rfl) rfl
theorem q767 : (Jvm.Cond.privateMethod ({ cls := "OutwardDoors$Parser", name := "goesOn", desc := "()Z" } : Jvm.MethodName)) ∈ lw_tbl := lw_at lw_m3 138 rfl
theorem q768 : (Jvm.Cond.instanceMethod ({ cls := "OutwardDoors$Parser", name := "goesOn", desc := "()Z" } : Jvm.MethodName)) ∈ lw_all := lw_g (lw_at lw_m3 139 rfl) rfl
theorem q769 : (Jvm.Cond.code ({ cls := "OutwardDoors$Parser", name := "goesOn", desc := "()Z" } : Jvm.MethodName) prog_11_method_23_code (2 : Nat) (Option.some Jvm.ClassFile.FieldType.boolean)) ∈ lw_all := lw_g (lw_at lw_m3 140 rfl) rfl
theorem q784 : (Jvm.Cond.instanceMethod ({ cls := "OutwardDoors$Parser", name := "rule", desc := "()I" } : Jvm.MethodName)) ∈ lw_all := lw_g (lw_at lw_m3 155 rfl) rfl
theorem q785 : (Jvm.Cond.selects "OutwardDoors$Parser" ({ cls := "OutwardDoors$Parser", name := "rule", desc := "()I" } : Jvm.MethodName) ({ cls := "OutwardDoors$Parser", name := "rule", desc := "()I" } : Jvm.MethodName)) ∈ lw_all := lw_g (lw_at lw_m3 156 rfl) rfl
theorem q786 : (Jvm.Cond.code ({ cls := "OutwardDoors$Parser", name := "rule", desc := "()I" } : Jvm.MethodName) prog_11_method_25_code (2 : Nat) (Option.some Jvm.ClassFile.FieldType.int)) ∈ lw_all := lw_g (lw_at lw_m3 157 rfl) rfl
theorem q787 : (Jvm.Cond.classLink "OutwardDoors$Parser" (228 : Nat) "OutwardDoors$Rule") ∈ lw_all := lw_g (lw_at lw_m3 158 rfl) rfl
theorem q789 : (Jvm.Cond.methodLinkNest "OutwardDoors$Parser" (246 : Nat) ({ cls := "OutwardDoors$Rule", name := "<init>", desc := "()V" } : Jvm.MethodName) "OutwardDoors") ∈ lw_tbl := lw_at lw_m3 160 rfl
theorem q796 : (Jvm.Cond.fieldLinkNest "OutwardDoors$Parser" (227 : Nat) "OutwardDoors$Rule" "all" "Ljava/util/ArrayList;" "OutwardDoors") ∈ lw_tbl := lw_at lw_m3 167 rfl
theorem q800 : (Jvm.Cond.methodLink "OutwardDoors$Parser" (247 : Nat) ({ cls := "OutwardDoors$Parser", name := "clause", desc := "(LOutwardDoors$Rule;)V" } : Jvm.MethodName)) ∈ lw_all := lw_g (lw_at lw_m3 171 rfl) rfl
theorem q801 : (Jvm.Cond.privateMethod ({ cls := "OutwardDoors$Parser", name := "clause", desc := "(LOutwardDoors$Rule;)V" } : Jvm.MethodName)) ∈ lw_tbl := lw_at lw_m3 172 rfl
theorem q802 : (Jvm.Cond.instanceMethod ({ cls := "OutwardDoors$Parser", name := "clause", desc := "(LOutwardDoors$Rule;)V" } : Jvm.MethodName)) ∈ lw_all := lw_g (lw_at lw_m3 173 rfl) rfl
theorem q803 : (Jvm.Cond.code ({ cls := "OutwardDoors$Parser", name := "clause", desc := "(LOutwardDoors$Rule;)V" } : Jvm.MethodName) prog_11_method_22_code (3 : Nat) (Option.none : Option Jvm.ClassFile.FieldType)) ∈ lw_all := lw_g (lw_at lw_m3 174 rfl) rfl
theorem q804 : (Jvm.Cond.stringRef "OutwardDoors$Parser" (225 : Nat) "go") ∈ lw_tbl := lw_at lw_m3 175 rfl
theorem q805 : (Jvm.Cond.methodLink "OutwardDoors$Parser" (124 : Nat) ({ cls := "OutwardDoors$Parser", name := "sum", desc := "()LOutwardDoors$Value;" } : Jvm.MethodName)) ∈ lw_all := lw_g (lw_at lw_m3 176 rfl) rfl
theorem q806 : (Jvm.Cond.privateMethod ({ cls := "OutwardDoors$Parser", name := "sum", desc := "()LOutwardDoors$Value;" } : Jvm.MethodName)) ∈ lw_tbl := lw_at lw_m3 177 rfl
theorem q807 : (Jvm.Cond.instanceMethod ({ cls := "OutwardDoors$Parser", name := "sum", desc := "()LOutwardDoors$Value;" } : Jvm.MethodName)) ∈ lw_all := lw_g (lw_at lw_m3 178 rfl) rfl
theorem q808 : (Jvm.Cond.code ({ cls := "OutwardDoors$Parser", name := "sum", desc := "()LOutwardDoors$Value;" } : Jvm.MethodName) prog_11_method_12_code (3 : Nat) (Option.some (Jvm.ClassFile.FieldType.object "OutwardDoors$Value"))) ∈ lw_all := lw_g (lw_at lw_m3 179 rfl) rfl
theorem q809 : (Jvm.Cond.methodLink "OutwardDoors$Parser" (104 : Nat) ({ cls := "OutwardDoors$Parser", name := "term", desc := "()LOutwardDoors$Value;" } : Jvm.MethodName)) ∈ lw_all := lw_g (lw_at lw_m3 180 rfl) rfl
theorem q810 : (Jvm.Cond.privateMethod ({ cls := "OutwardDoors$Parser", name := "term", desc := "()LOutwardDoors$Value;" } : Jvm.MethodName)) ∈ lw_tbl := lw_at lw_m3 181 rfl
theorem q811 : (Jvm.Cond.instanceMethod ({ cls := "OutwardDoors$Parser", name := "term", desc := "()LOutwardDoors$Value;" } : Jvm.MethodName)) ∈ lw_all := lw_g (lw_at lw_m3 182 rfl) rfl
theorem q812 : (Jvm.Cond.code ({ cls := "OutwardDoors$Parser", name := "term", desc := "()LOutwardDoors$Value;" } : Jvm.MethodName) prog_11_method_11_code (3 : Nat) (Option.some (Jvm.ClassFile.FieldType.object "OutwardDoors$Value"))) ∈ lw_all := lw_g (lw_at lw_m3 183 rfl) rfl
theorem q813 : (Jvm.Cond.methodLink "OutwardDoors$Parser" (95 : Nat) ({ cls := "OutwardDoors$Parser", name := "value", desc := "()LOutwardDoors$Value;" } : Jvm.MethodName)) ∈ lw_all := lw_g (lw_at lw_m3 184 rfl) rfl
theorem q814 : (Jvm.Cond.privateMethod ({ cls := "OutwardDoors$Parser", name := "value", desc := "()LOutwardDoors$Value;" } : Jvm.MethodName)) ∈ lw_tbl := lw_at lw_m3 185 rfl
theorem q815 : (Jvm.Cond.instanceMethod ({ cls := "OutwardDoors$Parser", name := "value", desc := "()LOutwardDoors$Value;" } : Jvm.MethodName)) ∈ lw_all := lw_g (lw_at lw_m3 186 rfl) rfl
theorem q816 : (Jvm.Cond.code ({ cls := "OutwardDoors$Parser", name := "value", desc := "()LOutwardDoors$Value;" } : Jvm.MethodName) prog_11_method_10_code (3 : Nat) (Option.some (Jvm.ClassFile.FieldType.object "OutwardDoors$Value"))) ∈ lw_all := lw_g (lw_at lw_m3 187 rfl) rfl
theorem q817 : (Jvm.Cond.classLink "OutwardDoors$Parser" (79 : Nat) "OutwardDoors$Plain") ∈ lw_all := lw_g (lw_at lw_m3 188 rfl) rfl
theorem q819 : (Jvm.Cond.constant "OutwardDoors$Parser" (81 : Nat) (99999 : Int32)) ∈ lw_all := lw_g (lw_at lw_m3 190 rfl) rfl
theorem q820 : (Jvm.Cond.methodLink "OutwardDoors$Parser" (86 : Nat) ({ cls := "OutwardDoors$Plain", name := "<init>", desc := "(I)V" } : Jvm.MethodName)) ∈ lw_all := lw_g (lw_at lw_m3 191 rfl) rfl
theorem q831 : (Jvm.Cond.methodLink "OutwardDoors$Parser" (89 : Nat) ({ cls := "OutwardDoors$Parser", name := "counts", desc := "(I)V" } : Jvm.MethodName)) ∈ lw_all := lw_g (lw_at lw_m3 202 rfl) rfl
theorem q832 : (Jvm.Cond.privateMethod ({ cls := "OutwardDoors$Parser", name := "counts", desc := "(I)V" } : Jvm.MethodName)) ∈ lw_tbl := lw_at lw_m3 203 rfl
theorem q833 : (Jvm.Cond.instanceMethod ({ cls := "OutwardDoors$Parser", name := "counts", desc := "(I)V" } : Jvm.MethodName)) ∈ lw_all := lw_g (lw_at lw_m3 204 rfl) rfl
theorem q834 : (Jvm.Cond.code ({ cls := "OutwardDoors$Parser", name := "counts", desc := "(I)V" } : Jvm.MethodName) prog_11_method_8_code (2 : Nat) (Option.none : Option Jvm.ClassFile.FieldType)) ∈ lw_all := lw_g (lw_at lw_m3 205 rfl) rfl
theorem q835 : (Jvm.Cond.classLink "OutwardDoors$Parser" (92 : Nat) "OutwardDoors$Asked") ∈ lw_all := lw_g (lw_at lw_m3 206 rfl) rfl
theorem q837 : (Jvm.Cond.methodLink "OutwardDoors$Parser" (94 : Nat) ({ cls := "OutwardDoors$Asked", name := "<init>", desc := "(I)V" } : Jvm.MethodName)) ∈ lw_all := lw_g (lw_at lw_m3 208 rfl) rfl
theorem q845 : (Jvm.Cond.classLink "OutwardDoors$Parser" (99 : Nat) "OutwardDoors$Joined") ∈ lw_all := lw_g (lw_at lw_m3 216 rfl) rfl
theorem q847 : (Jvm.Cond.methodLink "OutwardDoors$Parser" (101 : Nat) ({ cls := "OutwardDoors$Joined", name := "<init>", desc := "(LOutwardDoors$Value;LOutwardDoors$Value;I)V" } : Jvm.MethodName)) ∈ lw_all := lw_g (lw_at lw_m3 218 rfl) rfl
theorem q861 : (Jvm.Cond.classLink "OutwardDoors$Parser" (232 : Nat) "OutwardDoors$Told") ∈ lw_all := lw_g (lw_at lw_m3 232 rfl) rfl
theorem q863 : (Jvm.Cond.stringRef "OutwardDoors$Parser" (234 : Nat) "if") ∈ lw_tbl := lw_at lw_m3 234 rfl
theorem q864 : (Jvm.Cond.methodLink "OutwardDoors$Parser" (134 : Nat) ({ cls := "OutwardDoors$Parser", name := "takes", desc := "(Ljava/lang/String;)Z" } : Jvm.MethodName)) ∈ lw_all := lw_g (lw_at lw_m3 235 rfl) rfl
theorem q865 : (Jvm.Cond.privateMethod ({ cls := "OutwardDoors$Parser", name := "takes", desc := "(Ljava/lang/String;)Z" } : Jvm.MethodName)) ∈ lw_tbl := lw_at lw_m3 236 rfl
theorem q866 : (Jvm.Cond.instanceMethod ({ cls := "OutwardDoors$Parser", name := "takes", desc := "(Ljava/lang/String;)Z" } : Jvm.MethodName)) ∈ lw_all := lw_g (lw_at lw_m3 237 rfl) rfl
theorem q867 : (Jvm.Cond.code ({ cls := "OutwardDoors$Parser", name := "takes", desc := "(Ljava/lang/String;)Z" } : Jvm.MethodName) prog_11_method_6_code (3 : Nat) (Option.some Jvm.ClassFile.FieldType.boolean)) ∈ lw_all := lw_g (lw_at lw_m3 238 rfl) rfl
theorem q868 : (Jvm.Cond.methodLink "OutwardDoors$Parser" (121 : Nat) ({ cls := "OutwardDoors$Parser", name := "test", desc := "()LOutwardDoors$Condition;" } : Jvm.MethodName)) ∈ lw_all := lw_g (lw_at lw_m3 239 rfl) rfl
theorem q869 : (Jvm.Cond.privateMethod ({ cls := "OutwardDoors$Parser", name := "test", desc := "()LOutwardDoors$Condition;" } : Jvm.MethodName)) ∈ lw_tbl := lw_at lw_m4 0 rfl
theorem q870 : (Jvm.Cond.instanceMethod ({ cls := "OutwardDoors$Parser", name := "test", desc := "()LOutwardDoors$Condition;" } : Jvm.MethodName)) ∈ lw_all := lw_g (lw_at lw_m4 1 rfl) rfl
theorem q871 : (Jvm.Cond.code ({ cls := "OutwardDoors$Parser", name := "test", desc := "()LOutwardDoors$Condition;" } : Jvm.MethodName) prog_11_method_15_code (2 : Nat) (Option.some (Jvm.ClassFile.FieldType.object "OutwardDoors$Condition"))) ∈ lw_all := lw_g (lw_at lw_m4 2 rfl) rfl
theorem q872 : (Jvm.Cond.methodLink "OutwardDoors$Parser" (142 : Nat) ({ cls := "OutwardDoors$Parser", name := "part", desc := "()LOutwardDoors$Condition;" } : Jvm.MethodName)) ∈ lw_all := lw_g (lw_at lw_m4 3 rfl) rfl
theorem q873 : (Jvm.Cond.privateMethod ({ cls := "OutwardDoors$Parser", name := "part", desc := "()LOutwardDoors$Condition;" } : Jvm.MethodName)) ∈ lw_tbl := lw_at lw_m4 4 rfl
theorem q874 : (Jvm.Cond.instanceMethod ({ cls := "OutwardDoors$Parser", name := "part", desc := "()LOutwardDoors$Condition;" } : Jvm.MethodName)) ∈ lw_all := lw_g (lw_at lw_m4 5 rfl) rfl
theorem q875 : (Jvm.Cond.code ({ cls := "OutwardDoors$Parser", name := "part", desc := "()LOutwardDoors$Condition;" } : Jvm.MethodName) prog_11_method_14_code (2 : Nat) (Option.some (Jvm.ClassFile.FieldType.object "OutwardDoors$Condition"))) ∈ lw_all := lw_g (lw_at lw_m4 6 rfl) rfl
theorem q876 : (Jvm.Cond.methodLink "OutwardDoors$Parser" (114 : Nat) ({ cls := "OutwardDoors$Parser", name := "fact", desc := "()LOutwardDoors$Condition;" } : Jvm.MethodName)) ∈ lw_all := lw_g (lw_at lw_m4 7 rfl) rfl
theorem q877 : (Jvm.Cond.privateMethod ({ cls := "OutwardDoors$Parser", name := "fact", desc := "()LOutwardDoors$Condition;" } : Jvm.MethodName)) ∈ lw_tbl := lw_at lw_m4 8 rfl
theorem q878 : (Jvm.Cond.instanceMethod ({ cls := "OutwardDoors$Parser", name := "fact", desc := "()LOutwardDoors$Condition;" } : Jvm.MethodName)) ∈ lw_all := lw_g (lw_at lw_m4 9 rfl) rfl
theorem q879 : (Jvm.Cond.code ({ cls := "OutwardDoors$Parser", name := "fact", desc := "()LOutwardDoors$Condition;" } : Jvm.MethodName) prog_11_method_13_code (5 : Nat) (Option.some (Jvm.ClassFile.FieldType.object "OutwardDoors$Condition"))) ∈ lw_all := lw_g (lw_at lw_m4 10 rfl) rfl
theorem q880 : (Jvm.Cond.stringRef "OutwardDoors$Parser" (107 : Nat) "not") ∈ lw_tbl := lw_at lw_m4 11 rfl
theorem q881 : (Jvm.Cond.methodLink "OutwardDoors$Parser" (109 : Nat) ({ cls := "OutwardDoors$Parser", name := "goesDeeper", desc := "(I)V" } : Jvm.MethodName)) ∈ lw_all := lw_g (lw_at lw_m4 12 rfl) rfl
theorem q882 : (Jvm.Cond.privateMethod ({ cls := "OutwardDoors$Parser", name := "goesDeeper", desc := "(I)V" } : Jvm.MethodName)) ∈ lw_tbl := lw_at lw_m4 13 rfl
theorem q883 : (Jvm.Cond.instanceMethod ({ cls := "OutwardDoors$Parser", name := "goesDeeper", desc := "(I)V" } : Jvm.MethodName)) ∈ lw_all := lw_g (lw_at lw_m4 14 rfl) rfl
theorem q884 : (Jvm.Cond.code ({ cls := "OutwardDoors$Parser", name := "goesDeeper", desc := "(I)V" } : Jvm.MethodName) prog_11_method_9_code (2 : Nat) (Option.none : Option Jvm.ClassFile.FieldType)) ∈ lw_all := lw_g (lw_at lw_m4 15 rfl) rfl
theorem q885 : (Jvm.Cond.classLink "OutwardDoors$Parser" (112 : Nat) "OutwardDoors$Not") ∈ lw_all := lw_g (lw_at lw_m4 16 rfl) rfl
theorem q887 : (Jvm.Cond.methodLink "OutwardDoors$Parser" (118 : Nat) ({ cls := "OutwardDoors$Not", name := "<init>", desc := "(LOutwardDoors$Condition;)V" } : Jvm.MethodName)) ∈ lw_all := lw_g (lw_at lw_m4 18 rfl) rfl
theorem q898 : (Jvm.Cond.classLink "OutwardDoors$Parser" (127 : Nat) "OutwardDoors$Compared") ∈ lw_all := lw_g (lw_at lw_m4 29 rfl) rfl
theorem q900 : (Jvm.Cond.methodLink "OutwardDoors$Parser" (129 : Nat) ({ cls := "OutwardDoors$Compared", name := "<init>", desc := "(LOutwardDoors$Value;LOutwardDoors$Value;IZ)V" } : Jvm.MethodName)) ∈ lw_all := lw_g (lw_at lw_m4 31 rfl) rfl
theorem q917 : (Jvm.Cond.stringRef "OutwardDoors$Parser" (132 : Nat) "and") ∈ lw_tbl := lw_at lw_m4 48 rfl
theorem q918 : (Jvm.Cond.classLink "OutwardDoors$Parser" (137 : Nat) "OutwardDoors$Both") ∈ lw_all := lw_g (lw_at lw_m4 49 rfl) rfl
theorem q920 : (Jvm.Cond.methodLink "OutwardDoors$Parser" (139 : Nat) ({ cls := "OutwardDoors$Both", name := "<init>", desc := "(LOutwardDoors$Condition;LOutwardDoors$Condition;Z)V" } : Jvm.MethodName)) ∈ lw_all := lw_g (lw_at lw_m4 51 rfl) rfl
theorem q934 : (Jvm.Cond.stringRef "OutwardDoors$Parser" (145 : Nat) "or") ∈ lw_tbl := lw_at lw_m4 65 rfl
theorem q935 : (Jvm.Cond.methodLinkNest "OutwardDoors$Parser" (236 : Nat) ({ cls := "OutwardDoors$Told", name := "<init>", desc := "(LOutwardDoors$Value;LOutwardDoors$Condition;)V" } : Jvm.MethodName) "OutwardDoors") ∈ lw_tbl := lw_at lw_m4 66 rfl
theorem q2011 : (Jvm.Cond.castable "OutwardDoors$Parser" "java/lang/Object") ∈ lw_tbl := lw_at lw_m8 182 rfl
theorem in_X5 : ∀ w ∈ wsX50, w ∈ lw_all := lw_in wsX50 [499, 501, 503, 505, 507, 509, 511] (by decide +kernel) (by decide +kernel)
