/-! OutwardDoors -/
set_option maxRecDepth 100000
def RX0 : String := "OutwardDoors"
def TX0 : u_T := fun k => match k with
  | 0 => ("OutwardDoors", "castle", "LOutwardDoors$Castle;", false)
  | 1 => ("OutwardDoors", "state", "LOutwardDoors$State;", true)
  | 2 => ("OutwardDoors", "kept", "LOutwardDoors$State;", true)
  | 3 => ("OutwardDoors", "rules", "Ljava/util/ArrayList;", true)
  | 4 => ("OutwardDoors", "inForce", "I", false)
  | 5 => ("OutwardDoors", "wrong", "LOutwardDoors$Wrong;", true)
  | 6 => ("OutwardDoors", "tape", "[B", true)
  | 7 => ("OutwardDoors", "taped", "I", false)
  | 8 => ("OutwardDoors", "noteWhen", "[I", true)
  | 9 => ("OutwardDoors", "noteWho", "[I", true)
  | 10 => ("OutwardDoors", "noteRoom", "[I", true)
  | 11 => ("OutwardDoors", "noteMany", "I", false)
  | 12 => ("OutwardDoors", "draw", "I", false)
  | 13 => ("OutwardDoors", "leftTo", "[I", true)
  | 14 => ("OutwardDoors", "words", "[J", true)
  | 15 => ("OutwardDoors", "step", "[I", true)
  | 16 => ("OutwardDoors", "will", "[I", true)
  | 17 => ("OutwardDoors", "left", "[I", true)
  | 18 => ("OutwardDoors", "outBy", "[I", true)
  | 19 => ("OutwardDoors", "past", "[LOutwardDoors$State;", true)
  | 20 => ("OutwardDoors", "pastMany", "I", false)
  | 21 => ("OutwardDoors", "pastAt", "I", false)
  | 22 => ("OutwardDoors", "steps", "[I", true)
  | 23 => ("OutwardDoors", "from", "[I", true)
  | 24 => ("OutwardDoors", "passing", "[I", true)
  | 25 => ("OutwardDoors", "queue", "[I", true)
  | 26 => ("OutwardDoors", "queued", "I", false)
  | 27 => ("OutwardDoors", "turnedDoor", "I", false)
  | 28 => ("OutwardDoors", "paid", "[I", true)
  | 29 => ("OutwardDoors", "isDone", "[Z", true)
  | 30 => ("OutwardDoors", "rooms", "[I", true)
  | _ => ("OutwardDoors", "images", "[LOutwardDoors$Image;", true)
def tyX0 : Nat → FieldType := fun k => match k with
  | 0 => .object "OutwardDoors$Castle"
  | 1 => .object "OutwardDoors$State"
  | 2 => .object "OutwardDoors$State"
  | 3 => .object "java/util/ArrayList"
  | 4 => .int
  | 5 => .object "OutwardDoors$Wrong"
  | 6 => .array .byte
  | 7 => .int
  | 8 => .array .int
  | 9 => .array .int
  | 10 => .array .int
  | 11 => .int
  | 12 => .int
  | 13 => .array .int
  | 14 => .array .long
  | 15 => .array .int
  | 16 => .array .int
  | 17 => .array .int
  | 18 => .array .int
  | 19 => .array (.object "OutwardDoors$State")
  | 20 => .int
  | 21 => .int
  | 22 => .array .int
  | 23 => .array .int
  | 24 => .array .int
  | 25 => .array .int
  | 26 => .int
  | 27 => .int
  | 28 => .array .int
  | 29 => .array .boolean
  | 30 => .array .int
  | _ => .array (.object "OutwardDoors$Image")
abbrev wsX00 : List Cond := u_ws RX0 TX0 32
set_option maxRecDepth 100000 in
theorem nmX0 : ∀ a, a < 32 → ∀ b, b < 32 → a ≠ b → (TX0 a).2.1 ≠ (TX0 b).2.1 := by decide +kernel
set_option maxRecDepth 100000 in
theorem tyX0_ok : ∀ k, k < 32 → parseFieldDescriptor (TX0 k).2.2.1 = some (tyX0 k) := by decide +kernel
abbrev cX0_init : ByteArray := prog_1_method_4_code
def yX0_init : MethodName := ⟨RX0, "<init>", "()V"⟩
def dkwX0_init_9 : List UInt8 := [188, 10, 181, 0, 114, 42, 7, 189, 0, 117, 181, 0, 119, 177]
abbrev dktX0_init_9 : List UInt8 := dkwX0_init_9 ++ []
def dkwX0_init_8 : List UInt8 := [181, 0, 104, 42, 17, 16, 0, 188, 10, 181, 0, 107, 42, 17, 16, 0, 188, 4, 181, 0, 110, 42, 16, 28]
abbrev dktX0_init_8 : List UInt8 := dkwX0_init_8 ++ dktX0_init_9
def dkwX0_init_7 : List UInt8 := [188, 10, 181, 0, 95, 42, 18, 91, 188, 10, 181, 0, 98, 42, 18, 91, 188, 10, 181, 0, 101, 42, 2]
abbrev dktX0_init_7 : List UInt8 := dkwX0_init_7 ++ dktX0_init_8
def dkwX0_init_6 : List UInt8 := [181, 0, 80, 42, 16, 20, 184, 0, 83, 181, 0, 87, 42, 18, 91, 188, 10, 181, 0, 92, 42, 18, 91]
abbrev dktX0_init_6 : List UInt8 := dkwX0_init_6 ++ dktX0_init_7
def dkwX0_init_5 : List UInt8 := [7, 188, 10, 181, 0, 71, 42, 7, 188, 10, 181, 0, 74, 42, 7, 188, 10, 181, 0, 77, 42, 7, 188, 10]
abbrev dktX0_init_5 : List UInt8 := dkwX0_init_5 ++ dktX0_init_6
def dkwX0_init_4 : List UInt8 := [188, 10, 181, 0, 57, 42, 16, 8, 188, 10, 181, 0, 60, 42, 178, 0, 63, 190, 188, 11, 181, 0, 67, 42]
abbrev dktX0_init_4 : List UInt8 := dkwX0_init_4 ++ dktX0_init_5
def dkwX0_init_3 : List UInt8 := [188, 8, 181, 0, 46, 42, 16, 10, 188, 10, 181, 0, 50, 42, 16, 10, 188, 10, 181, 0, 54, 42, 16, 10]
abbrev dktX0_init_3 : List UInt8 := dkwX0_init_3 ++ dktX0_init_4
def dkwX0_init_2 : List UInt8 := [181, 0, 31, 42, 2, 181, 0, 35, 42, 187, 0, 39, 89, 183, 0, 41, 181, 0, 42, 42, 17, 1, 144]
abbrev dktX0_init_2 : List UInt8 := dkwX0_init_2 ++ dktX0_init_3
def dkwX0_init_1 : List UInt8 := [181, 0, 19, 42, 187, 0, 16, 89, 183, 0, 18, 181, 0, 23, 42, 187, 0, 26, 89, 5, 183, 0, 28]
abbrev dktX0_init_1 : List UInt8 := dkwX0_init_1 ++ dktX0_init_2
def dkwX0_init_0 : List UInt8 := [42, 183, 0, 3, 42, 187, 0, 9, 89, 183, 0, 11, 181, 0, 12, 42, 187, 0, 16, 89, 183, 0, 18]
abbrev dktX0_init_0 : List UInt8 := dkwX0_init_0 ++ dktX0_init_1
theorem dksX0_init_0 : cX0_init.data.toList.drop 0 = dktX0_init_0 := by decide +kernel
theorem dksX0_init_1 : cX0_init.data.toList.drop 23 = dktX0_init_1 := dk_seg dksX0_init_0 23 rfl rfl
theorem dksX0_init_2 : cX0_init.data.toList.drop 46 = dktX0_init_2 := dk_seg dksX0_init_1 23 rfl rfl
theorem dksX0_init_3 : cX0_init.data.toList.drop 69 = dktX0_init_3 := dk_seg dksX0_init_2 23 rfl rfl
theorem dksX0_init_4 : cX0_init.data.toList.drop 93 = dktX0_init_4 := dk_seg dksX0_init_3 24 rfl rfl
theorem dksX0_init_5 : cX0_init.data.toList.drop 117 = dktX0_init_5 := dk_seg dksX0_init_4 24 rfl rfl
theorem dksX0_init_6 : cX0_init.data.toList.drop 141 = dktX0_init_6 := dk_seg dksX0_init_5 24 rfl rfl
theorem dksX0_init_7 : cX0_init.data.toList.drop 164 = dktX0_init_7 := dk_seg dksX0_init_6 23 rfl rfl
theorem dksX0_init_8 : cX0_init.data.toList.drop 187 = dktX0_init_8 := dk_seg dksX0_init_7 23 rfl rfl
theorem dksX0_init_9 : cX0_init.data.toList.drop 211 = dktX0_init_9 := dk_seg dksX0_init_8 24 rfl rfl
theorem dX0_init_0 : decode cX0_init 0 = .ok (.aload_n 0, 1) := dk_42 (dk_at dksX0_init_0 0 rfl rfl)
theorem dX0_init_1 : decode cX0_init 1 = .ok (.invokespecial 3, 3) := dk_183 0 3 (dk_at dksX0_init_0 1 rfl rfl)
theorem dX0_init_4 : decode cX0_init 4 = .ok (.aload_n 0, 1) := dk_42 (dk_at dksX0_init_0 4 rfl rfl)
theorem dX0_init_5 : decode cX0_init 5 = .ok (.new 9, 3) := dk_187 0 9 (dk_at dksX0_init_0 5 rfl rfl)
theorem dX0_init_8 : decode cX0_init 8 = .ok (.dup, 1) := dk_89 (dk_at dksX0_init_0 8 rfl rfl)
theorem dX0_init_9 : decode cX0_init 9 = .ok (.invokespecial 11, 3) := dk_183 0 11 (dk_at dksX0_init_0 9 rfl rfl)
theorem dX0_init_12 : decode cX0_init 12 = .ok (.putfield 12, 3) := dk_181 0 12 (dk_at dksX0_init_0 12 rfl rfl)
theorem dX0_init_15 : decode cX0_init 15 = .ok (.aload_n 0, 1) := dk_42 (dk_at dksX0_init_0 15 rfl rfl)
theorem dX0_init_16 : decode cX0_init 16 = .ok (.new 16, 3) := dk_187 0 16 (dk_at dksX0_init_0 16 rfl rfl)
theorem dX0_init_19 : decode cX0_init 19 = .ok (.dup, 1) := dk_89 (dk_at dksX0_init_0 19 rfl rfl)
theorem dX0_init_20 : decode cX0_init 20 = .ok (.invokespecial 18, 3) := dk_183 0 18 (dk_at dksX0_init_0 20 rfl rfl)
theorem dX0_init_23 : decode cX0_init 23 = .ok (.putfield 19, 3) := dk_181 0 19 (dk_at dksX0_init_1 0 rfl rfl)
theorem dX0_init_26 : decode cX0_init 26 = .ok (.aload_n 0, 1) := dk_42 (dk_at dksX0_init_1 3 rfl rfl)
theorem dX0_init_27 : decode cX0_init 27 = .ok (.new 16, 3) := dk_187 0 16 (dk_at dksX0_init_1 4 rfl rfl)
theorem dX0_init_30 : decode cX0_init 30 = .ok (.dup, 1) := dk_89 (dk_at dksX0_init_1 7 rfl rfl)
theorem dX0_init_31 : decode cX0_init 31 = .ok (.invokespecial 18, 3) := dk_183 0 18 (dk_at dksX0_init_1 8 rfl rfl)
theorem dX0_init_34 : decode cX0_init 34 = .ok (.putfield 23, 3) := dk_181 0 23 (dk_at dksX0_init_1 11 rfl rfl)
theorem dX0_init_37 : decode cX0_init 37 = .ok (.aload_n 0, 1) := dk_42 (dk_at dksX0_init_1 14 rfl rfl)
theorem dX0_init_38 : decode cX0_init 38 = .ok (.new 26, 3) := dk_187 0 26 (dk_at dksX0_init_1 15 rfl rfl)
theorem dX0_init_41 : decode cX0_init 41 = .ok (.dup, 1) := dk_89 (dk_at dksX0_init_1 18 rfl rfl)
theorem dX0_init_42 : decode cX0_init 42 = .ok (.iconst 2, 1) := dk_5 (dk_at dksX0_init_1 19 rfl rfl)
theorem dX0_init_43 : decode cX0_init 43 = .ok (.invokespecial 28, 3) := dk_183 0 28 (dk_at dksX0_init_1 20 rfl rfl)
theorem dX0_init_46 : decode cX0_init 46 = .ok (.putfield 31, 3) := dk_181 0 31 (dk_at dksX0_init_2 0 rfl rfl)
theorem dX0_init_49 : decode cX0_init 49 = .ok (.aload_n 0, 1) := dk_42 (dk_at dksX0_init_2 3 rfl rfl)
theorem dX0_init_50 : decode cX0_init 50 = .ok (.iconst (-1), 1) := dk_2 (dk_at dksX0_init_2 4 rfl rfl)
theorem dX0_init_51 : decode cX0_init 51 = .ok (.putfield 35, 3) := dk_181 0 35 (dk_at dksX0_init_2 5 rfl rfl)
theorem dX0_init_54 : decode cX0_init 54 = .ok (.aload_n 0, 1) := dk_42 (dk_at dksX0_init_2 8 rfl rfl)
theorem dX0_init_55 : decode cX0_init 55 = .ok (.new 39, 3) := dk_187 0 39 (dk_at dksX0_init_2 9 rfl rfl)
theorem dX0_init_58 : decode cX0_init 58 = .ok (.dup, 1) := dk_89 (dk_at dksX0_init_2 12 rfl rfl)
theorem dX0_init_59 : decode cX0_init 59 = .ok (.invokespecial 41, 3) := dk_183 0 41 (dk_at dksX0_init_2 13 rfl rfl)
theorem dX0_init_62 : decode cX0_init 62 = .ok (.putfield 42, 3) := dk_181 0 42 (dk_at dksX0_init_2 16 rfl rfl)
theorem dX0_init_65 : decode cX0_init 65 = .ok (.aload_n 0, 1) := dk_42 (dk_at dksX0_init_2 19 rfl rfl)
theorem dX0_init_66 : decode cX0_init 66 = .ok (.sipush 400, 3) := dk_17 1 144 (dk_at dksX0_init_2 20 rfl rfl)
theorem dX0_init_69 : decode cX0_init 69 = .ok (.newarray .byte, 2) := dk_188_8 (dk_at dksX0_init_3 0 rfl rfl)
theorem dX0_init_71 : decode cX0_init 71 = .ok (.putfield 46, 3) := dk_181 0 46 (dk_at dksX0_init_3 2 rfl rfl)
theorem dX0_init_74 : decode cX0_init 74 = .ok (.aload_n 0, 1) := dk_42 (dk_at dksX0_init_3 5 rfl rfl)
theorem dX0_init_75 : decode cX0_init 75 = .ok (.bipush 10, 2) := dk_16 10 (dk_at dksX0_init_3 6 rfl rfl)
theorem dX0_init_77 : decode cX0_init 77 = .ok (.newarray .int, 2) := dk_188_10 (dk_at dksX0_init_3 8 rfl rfl)
theorem dX0_init_79 : decode cX0_init 79 = .ok (.putfield 50, 3) := dk_181 0 50 (dk_at dksX0_init_3 10 rfl rfl)
theorem dX0_init_82 : decode cX0_init 82 = .ok (.aload_n 0, 1) := dk_42 (dk_at dksX0_init_3 13 rfl rfl)
theorem dX0_init_83 : decode cX0_init 83 = .ok (.bipush 10, 2) := dk_16 10 (dk_at dksX0_init_3 14 rfl rfl)
theorem dX0_init_85 : decode cX0_init 85 = .ok (.newarray .int, 2) := dk_188_10 (dk_at dksX0_init_3 16 rfl rfl)
theorem dX0_init_87 : decode cX0_init 87 = .ok (.putfield 54, 3) := dk_181 0 54 (dk_at dksX0_init_3 18 rfl rfl)
theorem dX0_init_90 : decode cX0_init 90 = .ok (.aload_n 0, 1) := dk_42 (dk_at dksX0_init_3 21 rfl rfl)
theorem dX0_init_91 : decode cX0_init 91 = .ok (.bipush 10, 2) := dk_16 10 (dk_at dksX0_init_3 22 rfl rfl)
theorem dX0_init_93 : decode cX0_init 93 = .ok (.newarray .int, 2) := dk_188_10 (dk_at dksX0_init_4 0 rfl rfl)
theorem dX0_init_95 : decode cX0_init 95 = .ok (.putfield 57, 3) := dk_181 0 57 (dk_at dksX0_init_4 2 rfl rfl)
theorem dX0_init_98 : decode cX0_init 98 = .ok (.aload_n 0, 1) := dk_42 (dk_at dksX0_init_4 5 rfl rfl)
theorem dX0_init_99 : decode cX0_init 99 = .ok (.bipush 8, 2) := dk_16 8 (dk_at dksX0_init_4 6 rfl rfl)
theorem dX0_init_101 : decode cX0_init 101 = .ok (.newarray .int, 2) := dk_188_10 (dk_at dksX0_init_4 8 rfl rfl)
theorem dX0_init_103 : decode cX0_init 103 = .ok (.putfield 60, 3) := dk_181 0 60 (dk_at dksX0_init_4 10 rfl rfl)
theorem dX0_init_106 : decode cX0_init 106 = .ok (.aload_n 0, 1) := dk_42 (dk_at dksX0_init_4 13 rfl rfl)
theorem dX0_init_107 : decode cX0_init 107 = .ok (.getstatic 63, 3) := dk_178 0 63 (dk_at dksX0_init_4 14 rfl rfl)
theorem dX0_init_110 : decode cX0_init 110 = .ok (.arraylength, 1) := dk_190 (dk_at dksX0_init_4 17 rfl rfl)
theorem dX0_init_111 : decode cX0_init 111 = .ok (.newarray .long, 2) := dk_188_11 (dk_at dksX0_init_4 18 rfl rfl)
theorem dX0_init_113 : decode cX0_init 113 = .ok (.putfield 67, 3) := dk_181 0 67 (dk_at dksX0_init_4 20 rfl rfl)
theorem dX0_init_116 : decode cX0_init 116 = .ok (.aload_n 0, 1) := dk_42 (dk_at dksX0_init_4 23 rfl rfl)
theorem dX0_init_117 : decode cX0_init 117 = .ok (.iconst 4, 1) := dk_7 (dk_at dksX0_init_5 0 rfl rfl)
theorem dX0_init_118 : decode cX0_init 118 = .ok (.newarray .int, 2) := dk_188_10 (dk_at dksX0_init_5 1 rfl rfl)
theorem dX0_init_120 : decode cX0_init 120 = .ok (.putfield 71, 3) := dk_181 0 71 (dk_at dksX0_init_5 3 rfl rfl)
theorem dX0_init_123 : decode cX0_init 123 = .ok (.aload_n 0, 1) := dk_42 (dk_at dksX0_init_5 6 rfl rfl)
theorem dX0_init_124 : decode cX0_init 124 = .ok (.iconst 4, 1) := dk_7 (dk_at dksX0_init_5 7 rfl rfl)
theorem dX0_init_125 : decode cX0_init 125 = .ok (.newarray .int, 2) := dk_188_10 (dk_at dksX0_init_5 8 rfl rfl)
theorem dX0_init_127 : decode cX0_init 127 = .ok (.putfield 74, 3) := dk_181 0 74 (dk_at dksX0_init_5 10 rfl rfl)
theorem dX0_init_130 : decode cX0_init 130 = .ok (.aload_n 0, 1) := dk_42 (dk_at dksX0_init_5 13 rfl rfl)
theorem dX0_init_131 : decode cX0_init 131 = .ok (.iconst 4, 1) := dk_7 (dk_at dksX0_init_5 14 rfl rfl)
theorem dX0_init_132 : decode cX0_init 132 = .ok (.newarray .int, 2) := dk_188_10 (dk_at dksX0_init_5 15 rfl rfl)
theorem dX0_init_134 : decode cX0_init 134 = .ok (.putfield 77, 3) := dk_181 0 77 (dk_at dksX0_init_5 17 rfl rfl)
theorem dX0_init_137 : decode cX0_init 137 = .ok (.aload_n 0, 1) := dk_42 (dk_at dksX0_init_5 20 rfl rfl)
theorem dX0_init_138 : decode cX0_init 138 = .ok (.iconst 4, 1) := dk_7 (dk_at dksX0_init_5 21 rfl rfl)
theorem dX0_init_139 : decode cX0_init 139 = .ok (.newarray .int, 2) := dk_188_10 (dk_at dksX0_init_5 22 rfl rfl)
theorem dX0_init_141 : decode cX0_init 141 = .ok (.putfield 80, 3) := dk_181 0 80 (dk_at dksX0_init_6 0 rfl rfl)
theorem dX0_init_144 : decode cX0_init 144 = .ok (.aload_n 0, 1) := dk_42 (dk_at dksX0_init_6 3 rfl rfl)
theorem dX0_init_145 : decode cX0_init 145 = .ok (.bipush 20, 2) := dk_16 20 (dk_at dksX0_init_6 4 rfl rfl)
theorem dX0_init_147 : decode cX0_init 147 = .ok (.invokestatic 83, 3) := dk_184 0 83 (dk_at dksX0_init_6 6 rfl rfl)
theorem dX0_init_150 : decode cX0_init 150 = .ok (.putfield 87, 3) := dk_181 0 87 (dk_at dksX0_init_6 9 rfl rfl)
theorem dX0_init_153 : decode cX0_init 153 = .ok (.aload_n 0, 1) := dk_42 (dk_at dksX0_init_6 12 rfl rfl)
theorem dX0_init_154 : decode cX0_init 154 = .ok (.ldc 91, 2) := dk_18 91 (dk_at dksX0_init_6 13 rfl rfl)
theorem dX0_init_156 : decode cX0_init 156 = .ok (.newarray .int, 2) := dk_188_10 (dk_at dksX0_init_6 15 rfl rfl)
theorem dX0_init_158 : decode cX0_init 158 = .ok (.putfield 92, 3) := dk_181 0 92 (dk_at dksX0_init_6 17 rfl rfl)
theorem dX0_init_161 : decode cX0_init 161 = .ok (.aload_n 0, 1) := dk_42 (dk_at dksX0_init_6 20 rfl rfl)
theorem dX0_init_162 : decode cX0_init 162 = .ok (.ldc 91, 2) := dk_18 91 (dk_at dksX0_init_6 21 rfl rfl)
theorem dX0_init_164 : decode cX0_init 164 = .ok (.newarray .int, 2) := dk_188_10 (dk_at dksX0_init_7 0 rfl rfl)
theorem dX0_init_166 : decode cX0_init 166 = .ok (.putfield 95, 3) := dk_181 0 95 (dk_at dksX0_init_7 2 rfl rfl)
theorem dX0_init_169 : decode cX0_init 169 = .ok (.aload_n 0, 1) := dk_42 (dk_at dksX0_init_7 5 rfl rfl)
theorem dX0_init_170 : decode cX0_init 170 = .ok (.ldc 91, 2) := dk_18 91 (dk_at dksX0_init_7 6 rfl rfl)
theorem dX0_init_172 : decode cX0_init 172 = .ok (.newarray .int, 2) := dk_188_10 (dk_at dksX0_init_7 8 rfl rfl)
theorem dX0_init_174 : decode cX0_init 174 = .ok (.putfield 98, 3) := dk_181 0 98 (dk_at dksX0_init_7 10 rfl rfl)
theorem dX0_init_177 : decode cX0_init 177 = .ok (.aload_n 0, 1) := dk_42 (dk_at dksX0_init_7 13 rfl rfl)
theorem dX0_init_178 : decode cX0_init 178 = .ok (.ldc 91, 2) := dk_18 91 (dk_at dksX0_init_7 14 rfl rfl)
theorem dX0_init_180 : decode cX0_init 180 = .ok (.newarray .int, 2) := dk_188_10 (dk_at dksX0_init_7 16 rfl rfl)
theorem dX0_init_182 : decode cX0_init 182 = .ok (.putfield 101, 3) := dk_181 0 101 (dk_at dksX0_init_7 18 rfl rfl)
theorem dX0_init_185 : decode cX0_init 185 = .ok (.aload_n 0, 1) := dk_42 (dk_at dksX0_init_7 21 rfl rfl)
theorem dX0_init_186 : decode cX0_init 186 = .ok (.iconst (-1), 1) := dk_2 (dk_at dksX0_init_7 22 rfl rfl)
theorem dX0_init_187 : decode cX0_init 187 = .ok (.putfield 104, 3) := dk_181 0 104 (dk_at dksX0_init_8 0 rfl rfl)
theorem dX0_init_190 : decode cX0_init 190 = .ok (.aload_n 0, 1) := dk_42 (dk_at dksX0_init_8 3 rfl rfl)
theorem dX0_init_191 : decode cX0_init 191 = .ok (.sipush 4096, 3) := dk_17 16 0 (dk_at dksX0_init_8 4 rfl rfl)
theorem dX0_init_194 : decode cX0_init 194 = .ok (.newarray .int, 2) := dk_188_10 (dk_at dksX0_init_8 7 rfl rfl)
theorem dX0_init_196 : decode cX0_init 196 = .ok (.putfield 107, 3) := dk_181 0 107 (dk_at dksX0_init_8 9 rfl rfl)
theorem dX0_init_199 : decode cX0_init 199 = .ok (.aload_n 0, 1) := dk_42 (dk_at dksX0_init_8 12 rfl rfl)
theorem dX0_init_200 : decode cX0_init 200 = .ok (.sipush 4096, 3) := dk_17 16 0 (dk_at dksX0_init_8 13 rfl rfl)
theorem dX0_init_203 : decode cX0_init 203 = .ok (.newarray .boolean, 2) := dk_188_4 (dk_at dksX0_init_8 16 rfl rfl)
theorem dX0_init_205 : decode cX0_init 205 = .ok (.putfield 110, 3) := dk_181 0 110 (dk_at dksX0_init_8 18 rfl rfl)
theorem dX0_init_208 : decode cX0_init 208 = .ok (.aload_n 0, 1) := dk_42 (dk_at dksX0_init_8 21 rfl rfl)
theorem dX0_init_209 : decode cX0_init 209 = .ok (.bipush 28, 2) := dk_16 28 (dk_at dksX0_init_8 22 rfl rfl)
theorem dX0_init_211 : decode cX0_init 211 = .ok (.newarray .int, 2) := dk_188_10 (dk_at dksX0_init_9 0 rfl rfl)
theorem dX0_init_213 : decode cX0_init 213 = .ok (.putfield 114, 3) := dk_181 0 114 (dk_at dksX0_init_9 2 rfl rfl)
theorem dX0_init_216 : decode cX0_init 216 = .ok (.aload_n 0, 1) := dk_42 (dk_at dksX0_init_9 5 rfl rfl)
theorem dX0_init_217 : decode cX0_init 217 = .ok (.iconst 4, 1) := dk_7 (dk_at dksX0_init_9 6 rfl rfl)
theorem dX0_init_218 : decode cX0_init 218 = .ok (.anewarray 117, 3) := dk_189 0 117 (dk_at dksX0_init_9 7 rfl rfl)
theorem dX0_init_221 : decode cX0_init 221 = .ok (.putfield 119, 3) := dk_181 0 119 (dk_at dksX0_init_9 10 rfl rfl)
theorem dX0_init_224 : decode cX0_init 224 = .ok (.return_, 1) := dk_177 (dk_at dksX0_init_9 13 rfl rfl)
abbrev cX0_newStates : ByteArray := prog_1_method_31_code
def yX0_newStates : MethodName := ⟨RX0, "newStates", "(I)[LOutwardDoors$State;"⟩
def dkwX0_newStates_1 : List UInt8 := [132, 2, 1, 167, 255, 238, 43, 176]
abbrev dktX0_newStates_1 : List UInt8 := dkwX0_newStates_1 ++ []
def dkwX0_newStates_0 : List UInt8 := [26, 189, 0, 16, 76, 3, 61, 28, 26, 162, 0, 19, 43, 28, 187, 0, 16, 89, 183, 0, 18, 83]
abbrev dktX0_newStates_0 : List UInt8 := dkwX0_newStates_0 ++ dktX0_newStates_1
theorem dksX0_newStates_0 : cX0_newStates.data.toList.drop 0 = dktX0_newStates_0 := by decide +kernel
theorem dksX0_newStates_1 : cX0_newStates.data.toList.drop 22 = dktX0_newStates_1 := dk_seg dksX0_newStates_0 22 rfl rfl
theorem dX0_newStates_0 : decode cX0_newStates 0 = .ok (.iload_n 0, 1) := dk_26 (dk_at dksX0_newStates_0 0 rfl rfl)
theorem dX0_newStates_1 : decode cX0_newStates 1 = .ok (.anewarray 16, 3) := dk_189 0 16 (dk_at dksX0_newStates_0 1 rfl rfl)
theorem dX0_newStates_4 : decode cX0_newStates 4 = .ok (.astore_n 1, 1) := dk_76 (dk_at dksX0_newStates_0 4 rfl rfl)
theorem dX0_newStates_5 : decode cX0_newStates 5 = .ok (.iconst 0, 1) := dk_3 (dk_at dksX0_newStates_0 5 rfl rfl)
theorem dX0_newStates_6 : decode cX0_newStates 6 = .ok (.istore_n 2, 1) := dk_61 (dk_at dksX0_newStates_0 6 rfl rfl)
theorem dX0_newStates_7 : decode cX0_newStates 7 = .ok (.iload_n 2, 1) := dk_28 (dk_at dksX0_newStates_0 7 rfl rfl)
theorem dX0_newStates_8 : decode cX0_newStates 8 = .ok (.iload_n 0, 1) := dk_26 (dk_at dksX0_newStates_0 8 rfl rfl)
theorem dX0_newStates_9 : decode cX0_newStates 9 = .ok (.if_icmp .ge 19, 3) := dk_162 0 19 (dk_at dksX0_newStates_0 9 rfl rfl)
theorem dX0_newStates_12 : decode cX0_newStates 12 = .ok (.aload_n 1, 1) := dk_43 (dk_at dksX0_newStates_0 12 rfl rfl)
theorem dX0_newStates_13 : decode cX0_newStates 13 = .ok (.iload_n 2, 1) := dk_28 (dk_at dksX0_newStates_0 13 rfl rfl)
theorem dX0_newStates_14 : decode cX0_newStates 14 = .ok (.new 16, 3) := dk_187 0 16 (dk_at dksX0_newStates_0 14 rfl rfl)
theorem dX0_newStates_17 : decode cX0_newStates 17 = .ok (.dup, 1) := dk_89 (dk_at dksX0_newStates_0 17 rfl rfl)
theorem dX0_newStates_18 : decode cX0_newStates 18 = .ok (.invokespecial 18, 3) := dk_183 0 18 (dk_at dksX0_newStates_0 18 rfl rfl)
theorem dX0_newStates_21 : decode cX0_newStates 21 = .ok (.aastore, 1) := dk_83 (dk_at dksX0_newStates_0 21 rfl rfl)
theorem dX0_newStates_22 : decode cX0_newStates 22 = .ok (.iinc 2 1, 3) := dk_132 2 1 (dk_at dksX0_newStates_1 0 rfl rfl)
theorem dX0_newStates_25 : decode cX0_newStates 25 = .ok (.goto (-18), 3) := dk_167 255 238 (dk_at dksX0_newStates_1 3 rfl rfl)
theorem dX0_newStates_28 : decode cX0_newStates 28 = .ok (.aload_n 1, 1) := dk_43 (dk_at dksX0_newStates_1 6 rfl rfl)
theorem dX0_newStates_29 : decode cX0_newStates 29 = .ok (.areturn, 1) := dk_176 (dk_at dksX0_newStates_1 7 rfl rfl)
abbrev cX0_feed : ByteArray := prog_1_method_11_code
def yX0_feed : MethodName := ⟨RX0, "feed", "(IIIII)I"⟩
def dkwX0_feed_2 : List UInt8 := [172]
abbrev dktX0_feed_2 : List UInt8 := dkwX0_feed_2 ++ []
def dkwX0_feed_1 : List UInt8 := [182, 0, 149, 42, 29, 182, 0, 149, 42, 21, 4, 182, 0, 149, 42, 21, 5, 182, 0, 149, 42, 180, 0, 146]
abbrev dktX0_feed_1 : List UInt8 := dkwX0_feed_1 ++ dktX0_feed_2
def dkwX0_feed_0 : List UInt8 := [42, 180, 0, 146, 16, 20, 96, 17, 1, 144, 164, 0, 5, 2, 172, 42, 27, 182, 0, 149, 42, 28]
abbrev dktX0_feed_0 : List UInt8 := dkwX0_feed_0 ++ dktX0_feed_1
theorem dksX0_feed_0 : cX0_feed.data.toList.drop 0 = dktX0_feed_0 := by decide +kernel
theorem dksX0_feed_1 : cX0_feed.data.toList.drop 22 = dktX0_feed_1 := dk_seg dksX0_feed_0 22 rfl rfl
theorem dksX0_feed_2 : cX0_feed.data.toList.drop 46 = dktX0_feed_2 := dk_seg dksX0_feed_1 24 rfl rfl
theorem dX0_feed_0 : decode cX0_feed 0 = .ok (.aload_n 0, 1) := dk_42 (dk_at dksX0_feed_0 0 rfl rfl)
theorem dX0_feed_1 : decode cX0_feed 1 = .ok (.getfield 146, 3) := dk_180 0 146 (dk_at dksX0_feed_0 1 rfl rfl)
theorem dX0_feed_4 : decode cX0_feed 4 = .ok (.bipush 20, 2) := dk_16 20 (dk_at dksX0_feed_0 4 rfl rfl)
theorem dX0_feed_6 : decode cX0_feed 6 = .ok (.iadd, 1) := dk_96 (dk_at dksX0_feed_0 6 rfl rfl)
theorem dX0_feed_7 : decode cX0_feed 7 = .ok (.sipush 400, 3) := dk_17 1 144 (dk_at dksX0_feed_0 7 rfl rfl)
theorem dX0_feed_10 : decode cX0_feed 10 = .ok (.if_icmp .le 5, 3) := dk_164 0 5 (dk_at dksX0_feed_0 10 rfl rfl)
theorem dX0_feed_13 : decode cX0_feed 13 = .ok (.iconst (-1), 1) := dk_2 (dk_at dksX0_feed_0 13 rfl rfl)
theorem dX0_feed_14 : decode cX0_feed 14 = .ok (.ireturn, 1) := dk_172 (dk_at dksX0_feed_0 14 rfl rfl)
theorem dX0_feed_15 : decode cX0_feed 15 = .ok (.aload_n 0, 1) := dk_42 (dk_at dksX0_feed_0 15 rfl rfl)
theorem dX0_feed_16 : decode cX0_feed 16 = .ok (.iload_n 1, 1) := dk_27 (dk_at dksX0_feed_0 16 rfl rfl)
theorem dX0_feed_17 : decode cX0_feed 17 = .ok (.invokevirtual 149, 3) := dk_182 0 149 (dk_at dksX0_feed_0 17 rfl rfl)
theorem dX0_feed_20 : decode cX0_feed 20 = .ok (.aload_n 0, 1) := dk_42 (dk_at dksX0_feed_0 20 rfl rfl)
theorem dX0_feed_21 : decode cX0_feed 21 = .ok (.iload_n 2, 1) := dk_28 (dk_at dksX0_feed_0 21 rfl rfl)
theorem dX0_feed_22 : decode cX0_feed 22 = .ok (.invokevirtual 149, 3) := dk_182 0 149 (dk_at dksX0_feed_1 0 rfl rfl)
theorem dX0_feed_25 : decode cX0_feed 25 = .ok (.aload_n 0, 1) := dk_42 (dk_at dksX0_feed_1 3 rfl rfl)
theorem dX0_feed_26 : decode cX0_feed 26 = .ok (.iload_n 3, 1) := dk_29 (dk_at dksX0_feed_1 4 rfl rfl)
theorem dX0_feed_27 : decode cX0_feed 27 = .ok (.invokevirtual 149, 3) := dk_182 0 149 (dk_at dksX0_feed_1 5 rfl rfl)
theorem dX0_feed_30 : decode cX0_feed 30 = .ok (.aload_n 0, 1) := dk_42 (dk_at dksX0_feed_1 8 rfl rfl)
theorem dX0_feed_31 : decode cX0_feed 31 = .ok (.iload 4, 2) := dk_21 4 (dk_at dksX0_feed_1 9 rfl rfl)
theorem dX0_feed_33 : decode cX0_feed 33 = .ok (.invokevirtual 149, 3) := dk_182 0 149 (dk_at dksX0_feed_1 11 rfl rfl)
theorem dX0_feed_36 : decode cX0_feed 36 = .ok (.aload_n 0, 1) := dk_42 (dk_at dksX0_feed_1 14 rfl rfl)
theorem dX0_feed_37 : decode cX0_feed 37 = .ok (.iload 5, 2) := dk_21 5 (dk_at dksX0_feed_1 15 rfl rfl)
theorem dX0_feed_39 : decode cX0_feed 39 = .ok (.invokevirtual 149, 3) := dk_182 0 149 (dk_at dksX0_feed_1 17 rfl rfl)
theorem dX0_feed_42 : decode cX0_feed 42 = .ok (.aload_n 0, 1) := dk_42 (dk_at dksX0_feed_1 20 rfl rfl)
theorem dX0_feed_43 : decode cX0_feed 43 = .ok (.getfield 146, 3) := dk_180 0 146 (dk_at dksX0_feed_1 21 rfl rfl)
theorem dX0_feed_46 : decode cX0_feed 46 = .ok (.ireturn, 1) := dk_172 (dk_at dksX0_feed_2 0 rfl rfl)
abbrev cX0_put : ByteArray := prog_1_method_12_code
def yX0_put : MethodName := ⟨RX0, "put", "(I)V"⟩
def dkwX0_put_1 : List UInt8 := [180, 0, 146, 4, 96, 181, 0, 146, 132, 2, 248, 167, 255, 226, 177]
abbrev dktX0_put_1 : List UInt8 := dkwX0_put_1 ++ []
def dkwX0_put_0 : List UInt8 := [16, 24, 61, 28, 155, 0, 32, 42, 180, 0, 46, 42, 180, 0, 146, 27, 28, 122, 145, 84, 42, 89]
abbrev dktX0_put_0 : List UInt8 := dkwX0_put_0 ++ dktX0_put_1
theorem dksX0_put_0 : cX0_put.data.toList.drop 0 = dktX0_put_0 := by decide +kernel
theorem dksX0_put_1 : cX0_put.data.toList.drop 22 = dktX0_put_1 := dk_seg dksX0_put_0 22 rfl rfl
theorem dX0_put_0 : decode cX0_put 0 = .ok (.bipush 24, 2) := dk_16 24 (dk_at dksX0_put_0 0 rfl rfl)
theorem dX0_put_2 : decode cX0_put 2 = .ok (.istore_n 2, 1) := dk_61 (dk_at dksX0_put_0 2 rfl rfl)
theorem dX0_put_3 : decode cX0_put 3 = .ok (.iload_n 2, 1) := dk_28 (dk_at dksX0_put_0 3 rfl rfl)
theorem dX0_put_4 : decode cX0_put 4 = .ok (.ifCond .lt 32, 3) := dk_155 0 32 (dk_at dksX0_put_0 4 rfl rfl)
theorem dX0_put_7 : decode cX0_put 7 = .ok (.aload_n 0, 1) := dk_42 (dk_at dksX0_put_0 7 rfl rfl)
theorem dX0_put_8 : decode cX0_put 8 = .ok (.getfield 46, 3) := dk_180 0 46 (dk_at dksX0_put_0 8 rfl rfl)
theorem dX0_put_11 : decode cX0_put 11 = .ok (.aload_n 0, 1) := dk_42 (dk_at dksX0_put_0 11 rfl rfl)
theorem dX0_put_12 : decode cX0_put 12 = .ok (.getfield 146, 3) := dk_180 0 146 (dk_at dksX0_put_0 12 rfl rfl)
theorem dX0_put_15 : decode cX0_put 15 = .ok (.iload_n 1, 1) := dk_27 (dk_at dksX0_put_0 15 rfl rfl)
theorem dX0_put_16 : decode cX0_put 16 = .ok (.iload_n 2, 1) := dk_28 (dk_at dksX0_put_0 16 rfl rfl)
theorem dX0_put_17 : decode cX0_put 17 = .ok (.ishr, 1) := dk_122 (dk_at dksX0_put_0 17 rfl rfl)
theorem dX0_put_18 : decode cX0_put 18 = .ok (.i2b, 1) := dk_145 (dk_at dksX0_put_0 18 rfl rfl)
theorem dX0_put_19 : decode cX0_put 19 = .ok (.bastore, 1) := dk_84 (dk_at dksX0_put_0 19 rfl rfl)
theorem dX0_put_20 : decode cX0_put 20 = .ok (.aload_n 0, 1) := dk_42 (dk_at dksX0_put_0 20 rfl rfl)
theorem dX0_put_21 : decode cX0_put 21 = .ok (.dup, 1) := dk_89 (dk_at dksX0_put_0 21 rfl rfl)
theorem dX0_put_22 : decode cX0_put 22 = .ok (.getfield 146, 3) := dk_180 0 146 (dk_at dksX0_put_1 0 rfl rfl)
theorem dX0_put_25 : decode cX0_put 25 = .ok (.iconst 1, 1) := dk_4 (dk_at dksX0_put_1 3 rfl rfl)
theorem dX0_put_26 : decode cX0_put 26 = .ok (.iadd, 1) := dk_96 (dk_at dksX0_put_1 4 rfl rfl)
theorem dX0_put_27 : decode cX0_put 27 = .ok (.putfield 146, 3) := dk_181 0 146 (dk_at dksX0_put_1 5 rfl rfl)
theorem dX0_put_30 : decode cX0_put 30 = .ok (.iinc 2 (-8), 3) := dk_132 2 248 (dk_at dksX0_put_1 8 rfl rfl)
theorem dX0_put_33 : decode cX0_put 33 = .ok (.goto (-30), 3) := dk_167 255 226 (dk_at dksX0_put_1 11 rfl rfl)
theorem dX0_put_36 : decode cX0_put 36 = .ok (.return_, 1) := dk_177 (dk_at dksX0_put_1 14 rfl rfl)
abbrev cX0_end : ByteArray := prog_1_method_13_code
def yX0_end : MethodName := ⟨RX0, "end", "(I)I"⟩
def dkwX0_end_0 : List UInt8 := [27, 155, 0, 11, 27, 42, 180, 0, 146, 164, 0, 5, 2, 172, 42, 27, 181, 0, 146, 27, 172]
abbrev dktX0_end_0 : List UInt8 := dkwX0_end_0 ++ []
theorem dksX0_end_0 : cX0_end.data.toList.drop 0 = dktX0_end_0 := by decide +kernel
theorem dX0_end_0 : decode cX0_end 0 = .ok (.iload_n 1, 1) := dk_27 (dk_at dksX0_end_0 0 rfl rfl)
theorem dX0_end_1 : decode cX0_end 1 = .ok (.ifCond .lt 11, 3) := dk_155 0 11 (dk_at dksX0_end_0 1 rfl rfl)
theorem dX0_end_4 : decode cX0_end 4 = .ok (.iload_n 1, 1) := dk_27 (dk_at dksX0_end_0 4 rfl rfl)
theorem dX0_end_5 : decode cX0_end 5 = .ok (.aload_n 0, 1) := dk_42 (dk_at dksX0_end_0 5 rfl rfl)
theorem dX0_end_6 : decode cX0_end 6 = .ok (.getfield 146, 3) := dk_180 0 146 (dk_at dksX0_end_0 6 rfl rfl)
theorem dX0_end_9 : decode cX0_end 9 = .ok (.if_icmp .le 5, 3) := dk_164 0 5 (dk_at dksX0_end_0 9 rfl rfl)
theorem dX0_end_12 : decode cX0_end 12 = .ok (.iconst (-1), 1) := dk_2 (dk_at dksX0_end_0 12 rfl rfl)
theorem dX0_end_13 : decode cX0_end 13 = .ok (.ireturn, 1) := dk_172 (dk_at dksX0_end_0 13 rfl rfl)
theorem dX0_end_14 : decode cX0_end 14 = .ok (.aload_n 0, 1) := dk_42 (dk_at dksX0_end_0 14 rfl rfl)
theorem dX0_end_15 : decode cX0_end 15 = .ok (.iload_n 1, 1) := dk_27 (dk_at dksX0_end_0 15 rfl rfl)
theorem dX0_end_16 : decode cX0_end 16 = .ok (.putfield 146, 3) := dk_181 0 146 (dk_at dksX0_end_0 16 rfl rfl)
theorem dX0_end_19 : decode cX0_end 19 = .ok (.iload_n 1, 1) := dk_27 (dk_at dksX0_end_0 19 rfl rfl)
theorem dX0_end_20 : decode cX0_end 20 = .ok (.ireturn, 1) := dk_172 (dk_at dksX0_end_0 20 rfl rfl)
abbrev cX0_castle : ByteArray := prog_1_method_14_code
def yX0_castle : MethodName := ⟨RX0, "castle", "()I"⟩
def dkwX0_castle_3 : List UInt8 := [78, 42, 3, 181, 0, 146, 45, 191]
abbrev dktX0_castle_3 : List UInt8 := dkwX0_castle_3 ++ []
def dkwX0_castle_2 : List UInt8 := [60, 42, 3, 181, 0, 146, 27, 172, 76, 16, 254, 43, 180, 0, 143, 100, 61, 42, 3, 181, 0, 146, 28, 172]
abbrev dktX0_castle_2 : List UInt8 := dkwX0_castle_2 ++ dktX0_castle_3
def dkwX0_castle_1 : List UInt8 := [42, 180, 0, 12, 182, 0, 160, 42, 3, 181, 0, 164, 42, 3, 181, 0, 167, 42, 180, 0, 12, 182, 0, 125]
abbrev dktX0_castle_1 : List UInt8 := dkwX0_castle_1 ++ dktX0_castle_2
def dkwX0_castle_0 : List UInt8 := [42, 187, 0, 152, 89, 42, 178, 0, 63, 16, 40, 183, 0, 154, 182, 0, 157, 181, 0, 12, 42, 180, 0, 19]
abbrev dktX0_castle_0 : List UInt8 := dkwX0_castle_0 ++ dktX0_castle_1
theorem dksX0_castle_0 : cX0_castle.data.toList.drop 0 = dktX0_castle_0 := by decide +kernel
theorem dksX0_castle_1 : cX0_castle.data.toList.drop 24 = dktX0_castle_1 := dk_seg dksX0_castle_0 24 rfl rfl
theorem dksX0_castle_2 : cX0_castle.data.toList.drop 48 = dktX0_castle_2 := dk_seg dksX0_castle_1 24 rfl rfl
theorem dksX0_castle_3 : cX0_castle.data.toList.drop 72 = dktX0_castle_3 := dk_seg dksX0_castle_2 24 rfl rfl
theorem dX0_castle_0 : decode cX0_castle 0 = .ok (.aload_n 0, 1) := dk_42 (dk_at dksX0_castle_0 0 rfl rfl)
theorem dX0_castle_1 : decode cX0_castle 1 = .ok (.new 152, 3) := dk_187 0 152 (dk_at dksX0_castle_0 1 rfl rfl)
theorem dX0_castle_4 : decode cX0_castle 4 = .ok (.dup, 1) := dk_89 (dk_at dksX0_castle_0 4 rfl rfl)
theorem dX0_castle_5 : decode cX0_castle 5 = .ok (.aload_n 0, 1) := dk_42 (dk_at dksX0_castle_0 5 rfl rfl)
theorem dX0_castle_6 : decode cX0_castle 6 = .ok (.getstatic 63, 3) := dk_178 0 63 (dk_at dksX0_castle_0 6 rfl rfl)
theorem dX0_castle_9 : decode cX0_castle 9 = .ok (.bipush 40, 2) := dk_16 40 (dk_at dksX0_castle_0 9 rfl rfl)
theorem dX0_castle_11 : decode cX0_castle 11 = .ok (.invokespecial 154, 3) := dk_183 0 154 (dk_at dksX0_castle_0 11 rfl rfl)
theorem dX0_castle_14 : decode cX0_castle 14 = .ok (.invokevirtual 157, 3) := dk_182 0 157 (dk_at dksX0_castle_0 14 rfl rfl)
theorem dX0_castle_17 : decode cX0_castle 17 = .ok (.putfield 12, 3) := dk_181 0 12 (dk_at dksX0_castle_0 17 rfl rfl)
theorem dX0_castle_20 : decode cX0_castle 20 = .ok (.aload_n 0, 1) := dk_42 (dk_at dksX0_castle_0 20 rfl rfl)
theorem dX0_castle_21 : decode cX0_castle 21 = .ok (.getfield 19, 3) := dk_180 0 19 (dk_at dksX0_castle_0 21 rfl rfl)
theorem dX0_castle_24 : decode cX0_castle 24 = .ok (.aload_n 0, 1) := dk_42 (dk_at dksX0_castle_1 0 rfl rfl)
theorem dX0_castle_25 : decode cX0_castle 25 = .ok (.getfield 12, 3) := dk_180 0 12 (dk_at dksX0_castle_1 1 rfl rfl)
theorem dX0_castle_28 : decode cX0_castle 28 = .ok (.invokevirtual 160, 3) := dk_182 0 160 (dk_at dksX0_castle_1 4 rfl rfl)
theorem dX0_castle_31 : decode cX0_castle 31 = .ok (.aload_n 0, 1) := dk_42 (dk_at dksX0_castle_1 7 rfl rfl)
theorem dX0_castle_32 : decode cX0_castle 32 = .ok (.iconst 0, 1) := dk_3 (dk_at dksX0_castle_1 8 rfl rfl)
theorem dX0_castle_33 : decode cX0_castle 33 = .ok (.putfield 164, 3) := dk_181 0 164 (dk_at dksX0_castle_1 9 rfl rfl)
theorem dX0_castle_36 : decode cX0_castle 36 = .ok (.aload_n 0, 1) := dk_42 (dk_at dksX0_castle_1 12 rfl rfl)
theorem dX0_castle_37 : decode cX0_castle 37 = .ok (.iconst 0, 1) := dk_3 (dk_at dksX0_castle_1 13 rfl rfl)
theorem dX0_castle_38 : decode cX0_castle 38 = .ok (.putfield 167, 3) := dk_181 0 167 (dk_at dksX0_castle_1 14 rfl rfl)
theorem dX0_castle_41 : decode cX0_castle 41 = .ok (.aload_n 0, 1) := dk_42 (dk_at dksX0_castle_1 17 rfl rfl)
theorem dX0_castle_42 : decode cX0_castle 42 = .ok (.getfield 12, 3) := dk_180 0 12 (dk_at dksX0_castle_1 18 rfl rfl)
theorem dX0_castle_45 : decode cX0_castle 45 = .ok (.invokevirtual 125, 3) := dk_182 0 125 (dk_at dksX0_castle_1 21 rfl rfl)
theorem dX0_castle_48 : decode cX0_castle 48 = .ok (.istore_n 1, 1) := dk_60 (dk_at dksX0_castle_2 0 rfl rfl)
theorem dX0_castle_49 : decode cX0_castle 49 = .ok (.aload_n 0, 1) := dk_42 (dk_at dksX0_castle_2 1 rfl rfl)
theorem dX0_castle_50 : decode cX0_castle 50 = .ok (.iconst 0, 1) := dk_3 (dk_at dksX0_castle_2 2 rfl rfl)
theorem dX0_castle_51 : decode cX0_castle 51 = .ok (.putfield 146, 3) := dk_181 0 146 (dk_at dksX0_castle_2 3 rfl rfl)
theorem dX0_castle_54 : decode cX0_castle 54 = .ok (.iload_n 1, 1) := dk_27 (dk_at dksX0_castle_2 6 rfl rfl)
theorem dX0_castle_55 : decode cX0_castle 55 = .ok (.ireturn, 1) := dk_172 (dk_at dksX0_castle_2 7 rfl rfl)
theorem dX0_castle_56 : decode cX0_castle 56 = .ok (.astore_n 1, 1) := dk_76 (dk_at dksX0_castle_2 8 rfl rfl)
theorem dX0_castle_57 : decode cX0_castle 57 = .ok (.bipush (-2), 2) := dk_16 254 (dk_at dksX0_castle_2 9 rfl rfl)
theorem dX0_castle_59 : decode cX0_castle 59 = .ok (.aload_n 1, 1) := dk_43 (dk_at dksX0_castle_2 11 rfl rfl)
theorem dX0_castle_60 : decode cX0_castle 60 = .ok (.getfield 143, 3) := dk_180 0 143 (dk_at dksX0_castle_2 12 rfl rfl)
theorem dX0_castle_63 : decode cX0_castle 63 = .ok (.isub, 1) := dk_100 (dk_at dksX0_castle_2 15 rfl rfl)
theorem dX0_castle_64 : decode cX0_castle 64 = .ok (.istore_n 2, 1) := dk_61 (dk_at dksX0_castle_2 16 rfl rfl)
theorem dX0_castle_65 : decode cX0_castle 65 = .ok (.aload_n 0, 1) := dk_42 (dk_at dksX0_castle_2 17 rfl rfl)
theorem dX0_castle_66 : decode cX0_castle 66 = .ok (.iconst 0, 1) := dk_3 (dk_at dksX0_castle_2 18 rfl rfl)
theorem dX0_castle_67 : decode cX0_castle 67 = .ok (.putfield 146, 3) := dk_181 0 146 (dk_at dksX0_castle_2 19 rfl rfl)
theorem dX0_castle_70 : decode cX0_castle 70 = .ok (.iload_n 2, 1) := dk_28 (dk_at dksX0_castle_2 22 rfl rfl)
theorem dX0_castle_71 : decode cX0_castle 71 = .ok (.ireturn, 1) := dk_172 (dk_at dksX0_castle_2 23 rfl rfl)
theorem dX0_castle_72 : decode cX0_castle 72 = .ok (.astore_n 3, 1) := dk_78 (dk_at dksX0_castle_3 0 rfl rfl)
theorem dX0_castle_73 : decode cX0_castle 73 = .ok (.aload_n 0, 1) := dk_42 (dk_at dksX0_castle_3 1 rfl rfl)
theorem dX0_castle_74 : decode cX0_castle 74 = .ok (.iconst 0, 1) := dk_3 (dk_at dksX0_castle_3 2 rfl rfl)
theorem dX0_castle_75 : decode cX0_castle 75 = .ok (.putfield 146, 3) := dk_181 0 146 (dk_at dksX0_castle_3 3 rfl rfl)
theorem dX0_castle_78 : decode cX0_castle 78 = .ok (.aload_n 3, 1) := dk_45 (dk_at dksX0_castle_3 6 rfl rfl)
theorem dX0_castle_79 : decode cX0_castle 79 = .ok (.athrow, 1) := dk_191 (dk_at dksX0_castle_3 7 rfl rfl)
abbrev cX0_in : ByteArray := prog_1_method_1_code
def yX0_in : MethodName := ⟨RX0, "in", "(JJJ)Z"⟩
def dkwX0_in_0 : List UInt8 := [30, 32, 148, 155, 0, 14, 30, 22, 4, 148, 157, 0, 7, 4, 167, 0, 4, 3, 172]
abbrev dktX0_in_0 : List UInt8 := dkwX0_in_0 ++ []
theorem dksX0_in_0 : cX0_in.data.toList.drop 0 = dktX0_in_0 := by decide +kernel
theorem dX0_in_0 : decode cX0_in 0 = .ok (.lload_n 0, 1) := dk_30 (dk_at dksX0_in_0 0 rfl rfl)
theorem dX0_in_1 : decode cX0_in 1 = .ok (.lload_n 2, 1) := dk_32 (dk_at dksX0_in_0 1 rfl rfl)
theorem dX0_in_2 : decode cX0_in 2 = .ok (.lcmp, 1) := dk_148 (dk_at dksX0_in_0 2 rfl rfl)
theorem dX0_in_3 : decode cX0_in 3 = .ok (.ifCond .lt 14, 3) := dk_155 0 14 (dk_at dksX0_in_0 3 rfl rfl)
theorem dX0_in_6 : decode cX0_in 6 = .ok (.lload_n 0, 1) := dk_30 (dk_at dksX0_in_0 6 rfl rfl)
theorem dX0_in_7 : decode cX0_in 7 = .ok (.lload 4, 2) := dk_22 4 (dk_at dksX0_in_0 7 rfl rfl)
theorem dX0_in_9 : decode cX0_in 9 = .ok (.lcmp, 1) := dk_148 (dk_at dksX0_in_0 9 rfl rfl)
theorem dX0_in_10 : decode cX0_in 10 = .ok (.ifCond .gt 7, 3) := dk_157 0 7 (dk_at dksX0_in_0 10 rfl rfl)
theorem dX0_in_13 : decode cX0_in 13 = .ok (.iconst 1, 1) := dk_4 (dk_at dksX0_in_0 13 rfl rfl)
theorem dX0_in_14 : decode cX0_in 14 = .ok (.goto 4, 3) := dk_167 0 4 (dk_at dksX0_in_0 14 rfl rfl)
theorem dX0_in_17 : decode cX0_in 17 = .ok (.iconst 0, 1) := dk_3 (dk_at dksX0_in_0 17 rfl rfl)
theorem dX0_in_18 : decode cX0_in 18 = .ok (.ireturn, 1) := dk_172 (dk_at dksX0_in_0 18 rfl rfl)
abbrev cX0_fails : ByteArray := prog_1_method_10_code
def yX0_fails : MethodName := ⟨RX0, "fails", "(II)LOutwardDoors$Wrong;"⟩
def dkwX0_fails_0 : List UInt8 := [42, 180, 0, 42, 4, 16, 8, 28, 104, 96, 27, 96, 181, 0, 143, 42, 180, 0, 42, 176]
abbrev dktX0_fails_0 : List UInt8 := dkwX0_fails_0 ++ []
theorem dksX0_fails_0 : cX0_fails.data.toList.drop 0 = dktX0_fails_0 := by decide +kernel
theorem dX0_fails_0 : decode cX0_fails 0 = .ok (.aload_n 0, 1) := dk_42 (dk_at dksX0_fails_0 0 rfl rfl)
theorem dX0_fails_1 : decode cX0_fails 1 = .ok (.getfield 42, 3) := dk_180 0 42 (dk_at dksX0_fails_0 1 rfl rfl)
theorem dX0_fails_4 : decode cX0_fails 4 = .ok (.iconst 1, 1) := dk_4 (dk_at dksX0_fails_0 4 rfl rfl)
theorem dX0_fails_5 : decode cX0_fails 5 = .ok (.bipush 8, 2) := dk_16 8 (dk_at dksX0_fails_0 5 rfl rfl)
theorem dX0_fails_7 : decode cX0_fails 7 = .ok (.iload_n 2, 1) := dk_28 (dk_at dksX0_fails_0 7 rfl rfl)
theorem dX0_fails_8 : decode cX0_fails 8 = .ok (.imul, 1) := dk_104 (dk_at dksX0_fails_0 8 rfl rfl)
theorem dX0_fails_9 : decode cX0_fails 9 = .ok (.iadd, 1) := dk_96 (dk_at dksX0_fails_0 9 rfl rfl)
theorem dX0_fails_10 : decode cX0_fails 10 = .ok (.iload_n 1, 1) := dk_27 (dk_at dksX0_fails_0 10 rfl rfl)
theorem dX0_fails_11 : decode cX0_fails 11 = .ok (.iadd, 1) := dk_96 (dk_at dksX0_fails_0 11 rfl rfl)
theorem dX0_fails_12 : decode cX0_fails 12 = .ok (.putfield 143, 3) := dk_181 0 143 (dk_at dksX0_fails_0 12 rfl rfl)
theorem dX0_fails_15 : decode cX0_fails 15 = .ok (.aload_n 0, 1) := dk_42 (dk_at dksX0_fails_0 15 rfl rfl)
theorem dX0_fails_16 : decode cX0_fails 16 = .ok (.getfield 42, 3) := dk_180 0 42 (dk_at dksX0_fails_0 16 rfl rfl)
theorem dX0_fails_19 : decode cX0_fails 19 = .ok (.areturn, 1) := dk_176 (dk_at dksX0_fails_0 19 rfl rfl)
abbrev cX0_rule : ByteArray := prog_1_method_15_code
def yX0_rule : MethodName := ⟨RX0, "rule", "()I"⟩
def dkwX0_rule_2 : List UInt8 := [3, 181, 0, 146, 28, 172, 78, 42, 3, 181, 0, 146, 45, 191]
abbrev dktX0_rule_2 : List UInt8 := dkwX0_rule_2 ++ []
def dkwX0_rule_1 : List UInt8 := [183, 0, 154, 182, 0, 170, 60, 42, 3, 181, 0, 146, 27, 172, 76, 16, 254, 43, 180, 0, 143, 100, 61, 42]
abbrev dktX0_rule_1 : List UInt8 := dkwX0_rule_1 ++ dktX0_rule_2
def dkwX0_rule_0 : List UInt8 := [42, 180, 0, 31, 182, 0, 136, 16, 6, 160, 0, 5, 2, 172, 187, 0, 152, 89, 42, 178, 0, 63, 16, 12]
abbrev dktX0_rule_0 : List UInt8 := dkwX0_rule_0 ++ dktX0_rule_1
theorem dksX0_rule_0 : cX0_rule.data.toList.drop 0 = dktX0_rule_0 := by decide +kernel
theorem dksX0_rule_1 : cX0_rule.data.toList.drop 24 = dktX0_rule_1 := dk_seg dksX0_rule_0 24 rfl rfl
theorem dksX0_rule_2 : cX0_rule.data.toList.drop 48 = dktX0_rule_2 := dk_seg dksX0_rule_1 24 rfl rfl
theorem dX0_rule_0 : decode cX0_rule 0 = .ok (.aload_n 0, 1) := dk_42 (dk_at dksX0_rule_0 0 rfl rfl)
theorem dX0_rule_1 : decode cX0_rule 1 = .ok (.getfield 31, 3) := dk_180 0 31 (dk_at dksX0_rule_0 1 rfl rfl)
theorem dX0_rule_4 : decode cX0_rule 4 = .ok (.invokevirtual 136, 3) := dk_182 0 136 (dk_at dksX0_rule_0 4 rfl rfl)
theorem dX0_rule_7 : decode cX0_rule 7 = .ok (.bipush 6, 2) := dk_16 6 (dk_at dksX0_rule_0 7 rfl rfl)
theorem dX0_rule_9 : decode cX0_rule 9 = .ok (.if_icmp .ne 5, 3) := dk_160 0 5 (dk_at dksX0_rule_0 9 rfl rfl)
theorem dX0_rule_12 : decode cX0_rule 12 = .ok (.iconst (-1), 1) := dk_2 (dk_at dksX0_rule_0 12 rfl rfl)
theorem dX0_rule_13 : decode cX0_rule 13 = .ok (.ireturn, 1) := dk_172 (dk_at dksX0_rule_0 13 rfl rfl)
theorem dX0_rule_14 : decode cX0_rule 14 = .ok (.new 152, 3) := dk_187 0 152 (dk_at dksX0_rule_0 14 rfl rfl)
theorem dX0_rule_17 : decode cX0_rule 17 = .ok (.dup, 1) := dk_89 (dk_at dksX0_rule_0 17 rfl rfl)
theorem dX0_rule_18 : decode cX0_rule 18 = .ok (.aload_n 0, 1) := dk_42 (dk_at dksX0_rule_0 18 rfl rfl)
theorem dX0_rule_19 : decode cX0_rule 19 = .ok (.getstatic 63, 3) := dk_178 0 63 (dk_at dksX0_rule_0 19 rfl rfl)
theorem dX0_rule_22 : decode cX0_rule 22 = .ok (.bipush 12, 2) := dk_16 12 (dk_at dksX0_rule_0 22 rfl rfl)
theorem dX0_rule_24 : decode cX0_rule 24 = .ok (.invokespecial 154, 3) := dk_183 0 154 (dk_at dksX0_rule_1 0 rfl rfl)
theorem dX0_rule_27 : decode cX0_rule 27 = .ok (.invokevirtual 170, 3) := dk_182 0 170 (dk_at dksX0_rule_1 3 rfl rfl)
theorem dX0_rule_30 : decode cX0_rule 30 = .ok (.istore_n 1, 1) := dk_60 (dk_at dksX0_rule_1 6 rfl rfl)
theorem dX0_rule_31 : decode cX0_rule 31 = .ok (.aload_n 0, 1) := dk_42 (dk_at dksX0_rule_1 7 rfl rfl)
theorem dX0_rule_32 : decode cX0_rule 32 = .ok (.iconst 0, 1) := dk_3 (dk_at dksX0_rule_1 8 rfl rfl)
theorem dX0_rule_33 : decode cX0_rule 33 = .ok (.putfield 146, 3) := dk_181 0 146 (dk_at dksX0_rule_1 9 rfl rfl)
theorem dX0_rule_36 : decode cX0_rule 36 = .ok (.iload_n 1, 1) := dk_27 (dk_at dksX0_rule_1 12 rfl rfl)
theorem dX0_rule_37 : decode cX0_rule 37 = .ok (.ireturn, 1) := dk_172 (dk_at dksX0_rule_1 13 rfl rfl)
theorem dX0_rule_38 : decode cX0_rule 38 = .ok (.astore_n 1, 1) := dk_76 (dk_at dksX0_rule_1 14 rfl rfl)
theorem dX0_rule_39 : decode cX0_rule 39 = .ok (.bipush (-2), 2) := dk_16 254 (dk_at dksX0_rule_1 15 rfl rfl)
theorem dX0_rule_41 : decode cX0_rule 41 = .ok (.aload_n 1, 1) := dk_43 (dk_at dksX0_rule_1 17 rfl rfl)
theorem dX0_rule_42 : decode cX0_rule 42 = .ok (.getfield 143, 3) := dk_180 0 143 (dk_at dksX0_rule_1 18 rfl rfl)
theorem dX0_rule_45 : decode cX0_rule 45 = .ok (.isub, 1) := dk_100 (dk_at dksX0_rule_1 21 rfl rfl)
theorem dX0_rule_46 : decode cX0_rule 46 = .ok (.istore_n 2, 1) := dk_61 (dk_at dksX0_rule_1 22 rfl rfl)
theorem dX0_rule_47 : decode cX0_rule 47 = .ok (.aload_n 0, 1) := dk_42 (dk_at dksX0_rule_1 23 rfl rfl)
theorem dX0_rule_48 : decode cX0_rule 48 = .ok (.iconst 0, 1) := dk_3 (dk_at dksX0_rule_2 0 rfl rfl)
theorem dX0_rule_49 : decode cX0_rule 49 = .ok (.putfield 146, 3) := dk_181 0 146 (dk_at dksX0_rule_2 1 rfl rfl)
theorem dX0_rule_52 : decode cX0_rule 52 = .ok (.iload_n 2, 1) := dk_28 (dk_at dksX0_rule_2 4 rfl rfl)
theorem dX0_rule_53 : decode cX0_rule 53 = .ok (.ireturn, 1) := dk_172 (dk_at dksX0_rule_2 5 rfl rfl)
theorem dX0_rule_54 : decode cX0_rule 54 = .ok (.astore_n 3, 1) := dk_78 (dk_at dksX0_rule_2 6 rfl rfl)
theorem dX0_rule_55 : decode cX0_rule 55 = .ok (.aload_n 0, 1) := dk_42 (dk_at dksX0_rule_2 7 rfl rfl)
theorem dX0_rule_56 : decode cX0_rule 56 = .ok (.iconst 0, 1) := dk_3 (dk_at dksX0_rule_2 8 rfl rfl)
theorem dX0_rule_57 : decode cX0_rule 57 = .ok (.putfield 146, 3) := dk_181 0 146 (dk_at dksX0_rule_2 9 rfl rfl)
theorem dX0_rule_60 : decode cX0_rule 60 = .ok (.aload_n 3, 1) := dk_45 (dk_at dksX0_rule_2 12 rfl rfl)
theorem dX0_rule_61 : decode cX0_rule 61 = .ok (.athrow, 1) := dk_191 (dk_at dksX0_rule_2 13 rfl rfl)
abbrev cX0_force : ByteArray := prog_1_method_16_code
def yX0_force : MethodName := ⟨RX0, "force", "(I)I"⟩
def dkwX0_force_1 : List UInt8 := [42, 180, 0, 35, 61, 42, 27, 181, 0, 35, 28, 172]
abbrev dktX0_force_1 : List UInt8 := dkwX0_force_1 ++ []
def dkwX0_force_0 : List UInt8 := [27, 133, 20, 0, 173, 42, 180, 0, 31, 182, 0, 136, 4, 100, 133, 184, 0, 129, 154, 0, 6, 16, 254, 172]
abbrev dktX0_force_0 : List UInt8 := dkwX0_force_0 ++ dktX0_force_1
theorem dksX0_force_0 : cX0_force.data.toList.drop 0 = dktX0_force_0 := by decide +kernel
theorem dksX0_force_1 : cX0_force.data.toList.drop 24 = dktX0_force_1 := dk_seg dksX0_force_0 24 rfl rfl
theorem dX0_force_0 : decode cX0_force 0 = .ok (.iload_n 1, 1) := dk_27 (dk_at dksX0_force_0 0 rfl rfl)
theorem dX0_force_1 : decode cX0_force 1 = .ok (.i2l, 1) := dk_133 (dk_at dksX0_force_0 1 rfl rfl)
theorem dX0_force_2 : decode cX0_force 2 = .ok (.ldc2_w 173, 3) := dk_20 0 173 (dk_at dksX0_force_0 2 rfl rfl)
theorem dX0_force_5 : decode cX0_force 5 = .ok (.aload_n 0, 1) := dk_42 (dk_at dksX0_force_0 5 rfl rfl)
theorem dX0_force_6 : decode cX0_force 6 = .ok (.getfield 31, 3) := dk_180 0 31 (dk_at dksX0_force_0 6 rfl rfl)
theorem dX0_force_9 : decode cX0_force 9 = .ok (.invokevirtual 136, 3) := dk_182 0 136 (dk_at dksX0_force_0 9 rfl rfl)
theorem dX0_force_12 : decode cX0_force 12 = .ok (.iconst 1, 1) := dk_4 (dk_at dksX0_force_0 12 rfl rfl)
theorem dX0_force_13 : decode cX0_force 13 = .ok (.isub, 1) := dk_100 (dk_at dksX0_force_0 13 rfl rfl)
theorem dX0_force_14 : decode cX0_force 14 = .ok (.i2l, 1) := dk_133 (dk_at dksX0_force_0 14 rfl rfl)
theorem dX0_force_15 : decode cX0_force 15 = .ok (.invokestatic 129, 3) := dk_184 0 129 (dk_at dksX0_force_0 15 rfl rfl)
theorem dX0_force_18 : decode cX0_force 18 = .ok (.ifCond .ne 6, 3) := dk_154 0 6 (dk_at dksX0_force_0 18 rfl rfl)
theorem dX0_force_21 : decode cX0_force 21 = .ok (.bipush (-2), 2) := dk_16 254 (dk_at dksX0_force_0 21 rfl rfl)
theorem dX0_force_23 : decode cX0_force 23 = .ok (.ireturn, 1) := dk_172 (dk_at dksX0_force_0 23 rfl rfl)
theorem dX0_force_24 : decode cX0_force 24 = .ok (.aload_n 0, 1) := dk_42 (dk_at dksX0_force_1 0 rfl rfl)
theorem dX0_force_25 : decode cX0_force 25 = .ok (.getfield 35, 3) := dk_180 0 35 (dk_at dksX0_force_1 1 rfl rfl)
theorem dX0_force_28 : decode cX0_force 28 = .ok (.istore_n 2, 1) := dk_61 (dk_at dksX0_force_1 4 rfl rfl)
theorem dX0_force_29 : decode cX0_force 29 = .ok (.aload_n 0, 1) := dk_42 (dk_at dksX0_force_1 5 rfl rfl)
theorem dX0_force_30 : decode cX0_force 30 = .ok (.iload_n 1, 1) := dk_27 (dk_at dksX0_force_1 6 rfl rfl)
theorem dX0_force_31 : decode cX0_force 31 = .ok (.putfield 35, 3) := dk_181 0 35 (dk_at dksX0_force_1 7 rfl rfl)
theorem dX0_force_34 : decode cX0_force 34 = .ok (.iload_n 2, 1) := dk_28 (dk_at dksX0_force_1 10 rfl rfl)
theorem dX0_force_35 : decode cX0_force 35 = .ok (.ireturn, 1) := dk_172 (dk_at dksX0_force_1 11 rfl rfl)
abbrev cX0_person : ByteArray := prog_1_method_22_code
def yX0_person : MethodName := ⟨RX0, "person", "(II)I"⟩
def dkwX0_person_6 : List UInt8 := [46, 172, 16, 254, 172]
abbrev dktX0_person_6 : List UInt8 := dkwX0_person_6 ++ []
def dkwX0_person_5 : List UInt8 := [180, 0, 236, 27, 46, 172, 42, 180, 0, 19, 180, 0, 239, 27, 46, 172, 42, 180, 0, 19, 180, 0, 242, 27]
abbrev dktX0_person_5 : List UInt8 := dkwX0_person_5 ++ dktX0_person_6
def dkwX0_person_4 : List UInt8 := [180, 0, 202, 27, 46, 182, 0, 205, 172, 42, 42, 180, 0, 19, 27, 182, 0, 232, 172, 42, 180, 0, 19]
abbrev dktX0_person_4 : List UInt8 := dkwX0_person_4 ++ dktX0_person_5
def dkwX0_person_3 : List UInt8 := [180, 0, 220, 27, 182, 0, 223, 192, 0, 227, 180, 0, 229, 172, 42, 42, 180, 0, 19, 27, 42, 180, 0, 19]
abbrev dktX0_person_3 : List UInt8 := dkwX0_person_3 ++ dktX0_person_4
def dkwX0_person_2 : List UInt8 := [42, 180, 0, 19, 180, 0, 202, 27, 46, 172, 42, 180, 0, 19, 180, 0, 192, 27, 46, 172, 42, 180, 0, 12]
abbrev dktX0_person_2 : List UInt8 := dkwX0_person_2 ++ dktX0_person_3
def dkwX0_person_1 : List UInt8 := [170, 0, 0, 0, 0, 0, 0, 145, 0, 0, 0, 0, 0, 0, 0, 7, 0, 0, 0, 48, 0, 0, 0, 58, 0, 0, 0, 68, 0, 0, 0, 86, 0, 0, 0, 105, 0, 0, 0, 115, 0, 0, 0, 125, 0, 0, 0, 135]
abbrev dktX0_person_1 : List UInt8 := dkwX0_person_1 ++ dktX0_person_2
def dkwX0_person_0 : List UInt8 := [42, 27, 182, 0, 216, 154, 0, 6, 16, 254, 172, 28]
abbrev dktX0_person_0 : List UInt8 := dkwX0_person_0 ++ dktX0_person_1
theorem dksX0_person_0 : cX0_person.data.toList.drop 0 = dktX0_person_0 := by decide +kernel
theorem dksX0_person_1 : cX0_person.data.toList.drop 12 = dktX0_person_1 := dk_seg dksX0_person_0 12 rfl rfl
theorem dksX0_person_2 : cX0_person.data.toList.drop 60 = dktX0_person_2 := dk_seg dksX0_person_1 48 rfl rfl
theorem dksX0_person_3 : cX0_person.data.toList.drop 84 = dktX0_person_3 := dk_seg dksX0_person_2 24 rfl rfl
theorem dksX0_person_4 : cX0_person.data.toList.drop 108 = dktX0_person_4 := dk_seg dksX0_person_3 24 rfl rfl
theorem dksX0_person_5 : cX0_person.data.toList.drop 131 = dktX0_person_5 := dk_seg dksX0_person_4 23 rfl rfl
theorem dksX0_person_6 : cX0_person.data.toList.drop 155 = dktX0_person_6 := dk_seg dksX0_person_5 24 rfl rfl
theorem dX0_person_0 : decode cX0_person 0 = .ok (.aload_n 0, 1) := dk_42 (dk_at dksX0_person_0 0 rfl rfl)
theorem dX0_person_1 : decode cX0_person 1 = .ok (.iload_n 1, 1) := dk_27 (dk_at dksX0_person_0 1 rfl rfl)
theorem dX0_person_2 : decode cX0_person 2 = .ok (.invokevirtual 216, 3) := dk_182 0 216 (dk_at dksX0_person_0 2 rfl rfl)
theorem dX0_person_5 : decode cX0_person 5 = .ok (.ifCond .ne 6, 3) := dk_154 0 6 (dk_at dksX0_person_0 5 rfl rfl)
theorem dX0_person_8 : decode cX0_person 8 = .ok (.bipush (-2), 2) := dk_16 254 (dk_at dksX0_person_0 8 rfl rfl)
theorem dX0_person_10 : decode cX0_person 10 = .ok (.ireturn, 1) := dk_172 (dk_at dksX0_person_0 10 rfl rfl)
theorem dX0_person_11 : decode cX0_person 11 = .ok (.iload_n 2, 1) := dk_28 (dk_at dksX0_person_0 11 rfl rfl)
theorem dX0_person_12 : decode cX0_person 12 = .ok (.tableswitch 145 0 7 #[48, 58, 68, 86, 105, 115, 125, 135], 48) := by decide +kernel
theorem dX0_person_60 : decode cX0_person 60 = .ok (.aload_n 0, 1) := dk_42 (dk_at dksX0_person_2 0 rfl rfl)
theorem dX0_person_61 : decode cX0_person 61 = .ok (.getfield 19, 3) := dk_180 0 19 (dk_at dksX0_person_2 1 rfl rfl)
theorem dX0_person_64 : decode cX0_person 64 = .ok (.getfield 202, 3) := dk_180 0 202 (dk_at dksX0_person_2 4 rfl rfl)
theorem dX0_person_67 : decode cX0_person 67 = .ok (.iload_n 1, 1) := dk_27 (dk_at dksX0_person_2 7 rfl rfl)
theorem dX0_person_68 : decode cX0_person 68 = .ok (.iaload, 1) := dk_46 (dk_at dksX0_person_2 8 rfl rfl)
theorem dX0_person_69 : decode cX0_person 69 = .ok (.ireturn, 1) := dk_172 (dk_at dksX0_person_2 9 rfl rfl)
theorem dX0_person_70 : decode cX0_person 70 = .ok (.aload_n 0, 1) := dk_42 (dk_at dksX0_person_2 10 rfl rfl)
theorem dX0_person_71 : decode cX0_person 71 = .ok (.getfield 19, 3) := dk_180 0 19 (dk_at dksX0_person_2 11 rfl rfl)
theorem dX0_person_74 : decode cX0_person 74 = .ok (.getfield 192, 3) := dk_180 0 192 (dk_at dksX0_person_2 14 rfl rfl)
theorem dX0_person_77 : decode cX0_person 77 = .ok (.iload_n 1, 1) := dk_27 (dk_at dksX0_person_2 17 rfl rfl)
theorem dX0_person_78 : decode cX0_person 78 = .ok (.iaload, 1) := dk_46 (dk_at dksX0_person_2 18 rfl rfl)
theorem dX0_person_79 : decode cX0_person 79 = .ok (.ireturn, 1) := dk_172 (dk_at dksX0_person_2 19 rfl rfl)
theorem dX0_person_80 : decode cX0_person 80 = .ok (.aload_n 0, 1) := dk_42 (dk_at dksX0_person_2 20 rfl rfl)
theorem dX0_person_81 : decode cX0_person 81 = .ok (.getfield 12, 3) := dk_180 0 12 (dk_at dksX0_person_2 21 rfl rfl)
theorem dX0_person_84 : decode cX0_person 84 = .ok (.getfield 220, 3) := dk_180 0 220 (dk_at dksX0_person_3 0 rfl rfl)
theorem dX0_person_87 : decode cX0_person 87 = .ok (.iload_n 1, 1) := dk_27 (dk_at dksX0_person_3 3 rfl rfl)
theorem dX0_person_88 : decode cX0_person 88 = .ok (.invokevirtual 223, 3) := dk_182 0 223 (dk_at dksX0_person_3 4 rfl rfl)
theorem dX0_person_91 : decode cX0_person 91 = .ok (.checkcast 227, 3) := dk_192 0 227 (dk_at dksX0_person_3 7 rfl rfl)
theorem dX0_person_94 : decode cX0_person 94 = .ok (.getfield 229, 3) := dk_180 0 229 (dk_at dksX0_person_3 10 rfl rfl)
theorem dX0_person_97 : decode cX0_person 97 = .ok (.ireturn, 1) := dk_172 (dk_at dksX0_person_3 13 rfl rfl)
theorem dX0_person_98 : decode cX0_person 98 = .ok (.aload_n 0, 1) := dk_42 (dk_at dksX0_person_3 14 rfl rfl)
theorem dX0_person_99 : decode cX0_person 99 = .ok (.aload_n 0, 1) := dk_42 (dk_at dksX0_person_3 15 rfl rfl)
theorem dX0_person_100 : decode cX0_person 100 = .ok (.getfield 19, 3) := dk_180 0 19 (dk_at dksX0_person_3 16 rfl rfl)
theorem dX0_person_103 : decode cX0_person 103 = .ok (.iload_n 1, 1) := dk_27 (dk_at dksX0_person_3 19 rfl rfl)
theorem dX0_person_104 : decode cX0_person 104 = .ok (.aload_n 0, 1) := dk_42 (dk_at dksX0_person_3 20 rfl rfl)
theorem dX0_person_105 : decode cX0_person 105 = .ok (.getfield 19, 3) := dk_180 0 19 (dk_at dksX0_person_3 21 rfl rfl)
theorem dX0_person_108 : decode cX0_person 108 = .ok (.getfield 202, 3) := dk_180 0 202 (dk_at dksX0_person_4 0 rfl rfl)
theorem dX0_person_111 : decode cX0_person 111 = .ok (.iload_n 1, 1) := dk_27 (dk_at dksX0_person_4 3 rfl rfl)
theorem dX0_person_112 : decode cX0_person 112 = .ok (.iaload, 1) := dk_46 (dk_at dksX0_person_4 4 rfl rfl)
theorem dX0_person_113 : decode cX0_person 113 = .ok (.invokevirtual 205, 3) := dk_182 0 205 (dk_at dksX0_person_4 5 rfl rfl)
theorem dX0_person_116 : decode cX0_person 116 = .ok (.ireturn, 1) := dk_172 (dk_at dksX0_person_4 8 rfl rfl)
theorem dX0_person_117 : decode cX0_person 117 = .ok (.aload_n 0, 1) := dk_42 (dk_at dksX0_person_4 9 rfl rfl)
theorem dX0_person_118 : decode cX0_person 118 = .ok (.aload_n 0, 1) := dk_42 (dk_at dksX0_person_4 10 rfl rfl)
theorem dX0_person_119 : decode cX0_person 119 = .ok (.getfield 19, 3) := dk_180 0 19 (dk_at dksX0_person_4 11 rfl rfl)
theorem dX0_person_122 : decode cX0_person 122 = .ok (.iload_n 1, 1) := dk_27 (dk_at dksX0_person_4 14 rfl rfl)
theorem dX0_person_123 : decode cX0_person 123 = .ok (.invokevirtual 232, 3) := dk_182 0 232 (dk_at dksX0_person_4 15 rfl rfl)
theorem dX0_person_126 : decode cX0_person 126 = .ok (.ireturn, 1) := dk_172 (dk_at dksX0_person_4 18 rfl rfl)
theorem dX0_person_127 : decode cX0_person 127 = .ok (.aload_n 0, 1) := dk_42 (dk_at dksX0_person_4 19 rfl rfl)
theorem dX0_person_128 : decode cX0_person 128 = .ok (.getfield 19, 3) := dk_180 0 19 (dk_at dksX0_person_4 20 rfl rfl)
theorem dX0_person_131 : decode cX0_person 131 = .ok (.getfield 236, 3) := dk_180 0 236 (dk_at dksX0_person_5 0 rfl rfl)
theorem dX0_person_134 : decode cX0_person 134 = .ok (.iload_n 1, 1) := dk_27 (dk_at dksX0_person_5 3 rfl rfl)
theorem dX0_person_135 : decode cX0_person 135 = .ok (.iaload, 1) := dk_46 (dk_at dksX0_person_5 4 rfl rfl)
theorem dX0_person_136 : decode cX0_person 136 = .ok (.ireturn, 1) := dk_172 (dk_at dksX0_person_5 5 rfl rfl)
theorem dX0_person_137 : decode cX0_person 137 = .ok (.aload_n 0, 1) := dk_42 (dk_at dksX0_person_5 6 rfl rfl)
theorem dX0_person_138 : decode cX0_person 138 = .ok (.getfield 19, 3) := dk_180 0 19 (dk_at dksX0_person_5 7 rfl rfl)
theorem dX0_person_141 : decode cX0_person 141 = .ok (.getfield 239, 3) := dk_180 0 239 (dk_at dksX0_person_5 10 rfl rfl)
theorem dX0_person_144 : decode cX0_person 144 = .ok (.iload_n 1, 1) := dk_27 (dk_at dksX0_person_5 13 rfl rfl)
theorem dX0_person_145 : decode cX0_person 145 = .ok (.iaload, 1) := dk_46 (dk_at dksX0_person_5 14 rfl rfl)
theorem dX0_person_146 : decode cX0_person 146 = .ok (.ireturn, 1) := dk_172 (dk_at dksX0_person_5 15 rfl rfl)
theorem dX0_person_147 : decode cX0_person 147 = .ok (.aload_n 0, 1) := dk_42 (dk_at dksX0_person_5 16 rfl rfl)
theorem dX0_person_148 : decode cX0_person 148 = .ok (.getfield 19, 3) := dk_180 0 19 (dk_at dksX0_person_5 17 rfl rfl)
theorem dX0_person_151 : decode cX0_person 151 = .ok (.getfield 242, 3) := dk_180 0 242 (dk_at dksX0_person_5 20 rfl rfl)
theorem dX0_person_154 : decode cX0_person 154 = .ok (.iload_n 1, 1) := dk_27 (dk_at dksX0_person_5 23 rfl rfl)
theorem dX0_person_155 : decode cX0_person 155 = .ok (.iaload, 1) := dk_46 (dk_at dksX0_person_6 0 rfl rfl)
theorem dX0_person_156 : decode cX0_person 156 = .ok (.ireturn, 1) := dk_172 (dk_at dksX0_person_6 1 rfl rfl)
theorem dX0_person_157 : decode cX0_person 157 = .ok (.bipush (-2), 2) := dk_16 254 (dk_at dksX0_person_6 2 rfl rfl)
theorem dX0_person_159 : decode cX0_person 159 = .ok (.ireturn, 1) := dk_172 (dk_at dksX0_person_6 4 rfl rfl)
abbrev cX0_isPerson : ByteArray := prog_1_method_6_code
def yX0_isPerson : MethodName := ⟨RX0, "isPerson", "(I)Z"⟩
def dkwX0_isPerson_0 : List UInt8 := [27, 133, 9, 42, 180, 0, 12, 182, 0, 125, 4, 100, 133, 184, 0, 129, 172]
abbrev dktX0_isPerson_0 : List UInt8 := dkwX0_isPerson_0 ++ []
theorem dksX0_isPerson_0 : cX0_isPerson.data.toList.drop 0 = dktX0_isPerson_0 := by decide +kernel
theorem dX0_isPerson_0 : decode cX0_isPerson 0 = .ok (.iload_n 1, 1) := dk_27 (dk_at dksX0_isPerson_0 0 rfl rfl)
theorem dX0_isPerson_1 : decode cX0_isPerson 1 = .ok (.i2l, 1) := dk_133 (dk_at dksX0_isPerson_0 1 rfl rfl)
theorem dX0_isPerson_2 : decode cX0_isPerson 2 = .ok (.lconst 0, 1) := dk_9 (dk_at dksX0_isPerson_0 2 rfl rfl)
theorem dX0_isPerson_3 : decode cX0_isPerson 3 = .ok (.aload_n 0, 1) := dk_42 (dk_at dksX0_isPerson_0 3 rfl rfl)
theorem dX0_isPerson_4 : decode cX0_isPerson 4 = .ok (.getfield 12, 3) := dk_180 0 12 (dk_at dksX0_isPerson_0 4 rfl rfl)
theorem dX0_isPerson_7 : decode cX0_isPerson 7 = .ok (.invokevirtual 125, 3) := dk_182 0 125 (dk_at dksX0_isPerson_0 7 rfl rfl)
theorem dX0_isPerson_10 : decode cX0_isPerson 10 = .ok (.iconst 1, 1) := dk_4 (dk_at dksX0_isPerson_0 10 rfl rfl)
theorem dX0_isPerson_11 : decode cX0_isPerson 11 = .ok (.isub, 1) := dk_100 (dk_at dksX0_isPerson_0 11 rfl rfl)
theorem dX0_isPerson_12 : decode cX0_isPerson 12 = .ok (.i2l, 1) := dk_133 (dk_at dksX0_isPerson_0 12 rfl rfl)
theorem dX0_isPerson_13 : decode cX0_isPerson 13 = .ok (.invokestatic 129, 3) := dk_184 0 129 (dk_at dksX0_isPerson_0 13 rfl rfl)
theorem dX0_isPerson_16 : decode cX0_isPerson 16 = .ok (.ireturn, 1) := dk_172 (dk_at dksX0_isPerson_0 16 rfl rfl)
abbrev cX0_leftFrom : ByteArray := prog_1_method_18_code
def yX0_leftFrom : MethodName := ⟨RX0, "leftFrom", "(LOutwardDoors$State;II)I"⟩
def dkwX0_leftFrom_0 : List UInt8 := [42, 43, 180, 0, 192, 28, 46, 43, 180, 0, 195, 182, 0, 198, 42, 180, 0, 60, 29, 46, 172]
abbrev dktX0_leftFrom_0 : List UInt8 := dkwX0_leftFrom_0 ++ []
theorem dksX0_leftFrom_0 : cX0_leftFrom.data.toList.drop 0 = dktX0_leftFrom_0 := by decide +kernel
theorem dX0_leftFrom_0 : decode cX0_leftFrom 0 = .ok (.aload_n 0, 1) := dk_42 (dk_at dksX0_leftFrom_0 0 rfl rfl)
theorem dX0_leftFrom_1 : decode cX0_leftFrom 1 = .ok (.aload_n 1, 1) := dk_43 (dk_at dksX0_leftFrom_0 1 rfl rfl)
theorem dX0_leftFrom_2 : decode cX0_leftFrom 2 = .ok (.getfield 192, 3) := dk_180 0 192 (dk_at dksX0_leftFrom_0 2 rfl rfl)
theorem dX0_leftFrom_5 : decode cX0_leftFrom 5 = .ok (.iload_n 2, 1) := dk_28 (dk_at dksX0_leftFrom_0 5 rfl rfl)
theorem dX0_leftFrom_6 : decode cX0_leftFrom 6 = .ok (.iaload, 1) := dk_46 (dk_at dksX0_leftFrom_0 6 rfl rfl)
theorem dX0_leftFrom_7 : decode cX0_leftFrom 7 = .ok (.aload_n 1, 1) := dk_43 (dk_at dksX0_leftFrom_0 7 rfl rfl)
theorem dX0_leftFrom_8 : decode cX0_leftFrom 8 = .ok (.getfield 195, 3) := dk_180 0 195 (dk_at dksX0_leftFrom_0 8 rfl rfl)
theorem dX0_leftFrom_11 : decode cX0_leftFrom 11 = .ok (.invokevirtual 198, 3) := dk_182 0 198 (dk_at dksX0_leftFrom_0 11 rfl rfl)
theorem dX0_leftFrom_14 : decode cX0_leftFrom 14 = .ok (.aload_n 0, 1) := dk_42 (dk_at dksX0_leftFrom_0 14 rfl rfl)
theorem dX0_leftFrom_15 : decode cX0_leftFrom 15 = .ok (.getfield 60, 3) := dk_180 0 60 (dk_at dksX0_leftFrom_0 15 rfl rfl)
theorem dX0_leftFrom_18 : decode cX0_leftFrom 18 = .ok (.iload_n 3, 1) := dk_29 (dk_at dksX0_leftFrom_0 18 rfl rfl)
theorem dX0_leftFrom_19 : decode cX0_leftFrom 19 = .ok (.iaload, 1) := dk_46 (dk_at dksX0_leftFrom_0 19 rfl rfl)
theorem dX0_leftFrom_20 : decode cX0_leftFrom 20 = .ok (.ireturn, 1) := dk_172 (dk_at dksX0_leftFrom_0 20 rfl rfl)
abbrev cX0_laysLeft : ByteArray := prog_1_method_17_code
def yX0_laysLeft : MethodName := ⟨RX0, "laysLeft", "(II)V"⟩
def dkwX0_laysLeft_8 : List UInt8 := [46, 21, 7, 184, 0, 186, 79, 4, 62, 132, 4, 1, 167, 255, 105, 167, 255, 93, 177]
abbrev dktX0_laysLeft_8 : List UInt8 := dkwX0_laysLeft_8 ++ []
def dkwX0_laysLeft_7 : List UInt8 := [180, 0, 60, 21, 5, 46, 21, 7, 184, 0, 186, 79, 42, 180, 0, 60, 21, 6, 42, 180, 0, 60, 21, 6]
abbrev dktX0_laysLeft_7 : List UInt8 := dkwX0_laysLeft_7 ++ dktX0_laysLeft_8
def dkwX0_laysLeft_6 : List UInt8 := [21, 7, 164, 0, 53, 21, 7, 16, 99, 164, 0, 6, 167, 0, 43, 42, 180, 0, 60, 21, 5, 42]
abbrev dktX0_laysLeft_6 : List UInt8 := dkwX0_laysLeft_6 ++ dktX0_laysLeft_7
def dkwX0_laysLeft_5 : List UInt8 := [4, 96, 54, 7, 42, 180, 0, 60, 21, 5, 46, 21, 7, 163, 0, 15, 42, 180, 0, 60, 21, 6, 46]
abbrev dktX0_laysLeft_5 : List UInt8 := dkwX0_laysLeft_5 ++ dktX0_laysLeft_6
def dkwX0_laysLeft_4 : List UInt8 := [21, 4, 182, 0, 183, 54, 6, 42, 180, 0, 60, 21, 5, 46, 42, 180, 0, 60, 21, 6, 46, 184, 0, 186]
abbrev dktX0_laysLeft_4 : List UInt8 := dkwX0_laysLeft_4 ++ dktX0_laysLeft_5
def dkwX0_laysLeft_3 : List UInt8 := [182, 0, 175, 154, 0, 6, 167, 0, 120, 42, 180, 0, 12, 21, 4, 182, 0, 179, 54, 5, 42, 180, 0, 12]
abbrev dktX0_laysLeft_3 : List UInt8 := dkwX0_laysLeft_3 ++ dktX0_laysLeft_4
def dkwX0_laysLeft_2 : List UInt8 := [21, 4, 42, 180, 0, 12, 180, 0, 133, 182, 0, 136, 162, 0, 142, 42, 180, 0, 12, 21, 4, 28]
abbrev dktX0_laysLeft_2 : List UInt8 := dkwX0_laysLeft_2 ++ dktX0_laysLeft_3
def dkwX0_laysLeft_1 : List UInt8 := [167, 0, 5, 16, 99, 79, 132, 3, 1, 167, 255, 225, 4, 62, 29, 153, 0, 165, 3, 62, 3, 54, 4]
abbrev dktX0_laysLeft_1 : List UInt8 := dkwX0_laysLeft_1 ++ dktX0_laysLeft_2
def dkwX0_laysLeft_0 : List UInt8 := [3, 62, 29, 42, 180, 0, 12, 180, 0, 123, 162, 0, 26, 42, 180, 0, 60, 29, 29, 27, 160, 0, 7, 3]
abbrev dktX0_laysLeft_0 : List UInt8 := dkwX0_laysLeft_0 ++ dktX0_laysLeft_1
theorem dksX0_laysLeft_0 : cX0_laysLeft.data.toList.drop 0 = dktX0_laysLeft_0 := by decide +kernel
theorem dksX0_laysLeft_1 : cX0_laysLeft.data.toList.drop 24 = dktX0_laysLeft_1 := dk_seg dksX0_laysLeft_0 24 rfl rfl
theorem dksX0_laysLeft_2 : cX0_laysLeft.data.toList.drop 47 = dktX0_laysLeft_2 := dk_seg dksX0_laysLeft_1 23 rfl rfl
theorem dksX0_laysLeft_3 : cX0_laysLeft.data.toList.drop 69 = dktX0_laysLeft_3 := dk_seg dksX0_laysLeft_2 22 rfl rfl
theorem dksX0_laysLeft_4 : cX0_laysLeft.data.toList.drop 93 = dktX0_laysLeft_4 := dk_seg dksX0_laysLeft_3 24 rfl rfl
theorem dksX0_laysLeft_5 : cX0_laysLeft.data.toList.drop 117 = dktX0_laysLeft_5 := dk_seg dksX0_laysLeft_4 24 rfl rfl
theorem dksX0_laysLeft_6 : cX0_laysLeft.data.toList.drop 140 = dktX0_laysLeft_6 := dk_seg dksX0_laysLeft_5 23 rfl rfl
theorem dksX0_laysLeft_7 : cX0_laysLeft.data.toList.drop 162 = dktX0_laysLeft_7 := dk_seg dksX0_laysLeft_6 22 rfl rfl
theorem dksX0_laysLeft_8 : cX0_laysLeft.data.toList.drop 186 = dktX0_laysLeft_8 := dk_seg dksX0_laysLeft_7 24 rfl rfl
theorem dX0_laysLeft_0 : decode cX0_laysLeft 0 = .ok (.iconst 0, 1) := dk_3 (dk_at dksX0_laysLeft_0 0 rfl rfl)
theorem dX0_laysLeft_1 : decode cX0_laysLeft 1 = .ok (.istore_n 3, 1) := dk_62 (dk_at dksX0_laysLeft_0 1 rfl rfl)
theorem dX0_laysLeft_2 : decode cX0_laysLeft 2 = .ok (.iload_n 3, 1) := dk_29 (dk_at dksX0_laysLeft_0 2 rfl rfl)
theorem dX0_laysLeft_3 : decode cX0_laysLeft 3 = .ok (.aload_n 0, 1) := dk_42 (dk_at dksX0_laysLeft_0 3 rfl rfl)
theorem dX0_laysLeft_4 : decode cX0_laysLeft 4 = .ok (.getfield 12, 3) := dk_180 0 12 (dk_at dksX0_laysLeft_0 4 rfl rfl)
theorem dX0_laysLeft_7 : decode cX0_laysLeft 7 = .ok (.getfield 123, 3) := dk_180 0 123 (dk_at dksX0_laysLeft_0 7 rfl rfl)
theorem dX0_laysLeft_10 : decode cX0_laysLeft 10 = .ok (.if_icmp .ge 26, 3) := dk_162 0 26 (dk_at dksX0_laysLeft_0 10 rfl rfl)
theorem dX0_laysLeft_13 : decode cX0_laysLeft 13 = .ok (.aload_n 0, 1) := dk_42 (dk_at dksX0_laysLeft_0 13 rfl rfl)
theorem dX0_laysLeft_14 : decode cX0_laysLeft 14 = .ok (.getfield 60, 3) := dk_180 0 60 (dk_at dksX0_laysLeft_0 14 rfl rfl)
theorem dX0_laysLeft_17 : decode cX0_laysLeft 17 = .ok (.iload_n 3, 1) := dk_29 (dk_at dksX0_laysLeft_0 17 rfl rfl)
theorem dX0_laysLeft_18 : decode cX0_laysLeft 18 = .ok (.iload_n 3, 1) := dk_29 (dk_at dksX0_laysLeft_0 18 rfl rfl)
theorem dX0_laysLeft_19 : decode cX0_laysLeft 19 = .ok (.iload_n 1, 1) := dk_27 (dk_at dksX0_laysLeft_0 19 rfl rfl)
theorem dX0_laysLeft_20 : decode cX0_laysLeft 20 = .ok (.if_icmp .ne 7, 3) := dk_160 0 7 (dk_at dksX0_laysLeft_0 20 rfl rfl)
theorem dX0_laysLeft_23 : decode cX0_laysLeft 23 = .ok (.iconst 0, 1) := dk_3 (dk_at dksX0_laysLeft_0 23 rfl rfl)
theorem dX0_laysLeft_24 : decode cX0_laysLeft 24 = .ok (.goto 5, 3) := dk_167 0 5 (dk_at dksX0_laysLeft_1 0 rfl rfl)
theorem dX0_laysLeft_27 : decode cX0_laysLeft 27 = .ok (.bipush 99, 2) := dk_16 99 (dk_at dksX0_laysLeft_1 3 rfl rfl)
theorem dX0_laysLeft_29 : decode cX0_laysLeft 29 = .ok (.iastore, 1) := dk_79 (dk_at dksX0_laysLeft_1 5 rfl rfl)
theorem dX0_laysLeft_30 : decode cX0_laysLeft 30 = .ok (.iinc 3 1, 3) := dk_132 3 1 (dk_at dksX0_laysLeft_1 6 rfl rfl)
theorem dX0_laysLeft_33 : decode cX0_laysLeft 33 = .ok (.goto (-31), 3) := dk_167 255 225 (dk_at dksX0_laysLeft_1 9 rfl rfl)
theorem dX0_laysLeft_36 : decode cX0_laysLeft 36 = .ok (.iconst 1, 1) := dk_4 (dk_at dksX0_laysLeft_1 12 rfl rfl)
theorem dX0_laysLeft_37 : decode cX0_laysLeft 37 = .ok (.istore_n 3, 1) := dk_62 (dk_at dksX0_laysLeft_1 13 rfl rfl)
theorem dX0_laysLeft_38 : decode cX0_laysLeft 38 = .ok (.iload_n 3, 1) := dk_29 (dk_at dksX0_laysLeft_1 14 rfl rfl)
theorem dX0_laysLeft_39 : decode cX0_laysLeft 39 = .ok (.ifCond .eq 165, 3) := dk_153 0 165 (dk_at dksX0_laysLeft_1 15 rfl rfl)
theorem dX0_laysLeft_42 : decode cX0_laysLeft 42 = .ok (.iconst 0, 1) := dk_3 (dk_at dksX0_laysLeft_1 18 rfl rfl)
theorem dX0_laysLeft_43 : decode cX0_laysLeft 43 = .ok (.istore_n 3, 1) := dk_62 (dk_at dksX0_laysLeft_1 19 rfl rfl)
theorem dX0_laysLeft_44 : decode cX0_laysLeft 44 = .ok (.iconst 0, 1) := dk_3 (dk_at dksX0_laysLeft_1 20 rfl rfl)
theorem dX0_laysLeft_45 : decode cX0_laysLeft 45 = .ok (.istore 4, 2) := dk_54 4 (dk_at dksX0_laysLeft_1 21 rfl rfl)
theorem dX0_laysLeft_47 : decode cX0_laysLeft 47 = .ok (.iload 4, 2) := dk_21 4 (dk_at dksX0_laysLeft_2 0 rfl rfl)
theorem dX0_laysLeft_49 : decode cX0_laysLeft 49 = .ok (.aload_n 0, 1) := dk_42 (dk_at dksX0_laysLeft_2 2 rfl rfl)
theorem dX0_laysLeft_50 : decode cX0_laysLeft 50 = .ok (.getfield 12, 3) := dk_180 0 12 (dk_at dksX0_laysLeft_2 3 rfl rfl)
theorem dX0_laysLeft_53 : decode cX0_laysLeft 53 = .ok (.getfield 133, 3) := dk_180 0 133 (dk_at dksX0_laysLeft_2 6 rfl rfl)
theorem dX0_laysLeft_56 : decode cX0_laysLeft 56 = .ok (.invokevirtual 136, 3) := dk_182 0 136 (dk_at dksX0_laysLeft_2 9 rfl rfl)
theorem dX0_laysLeft_59 : decode cX0_laysLeft 59 = .ok (.if_icmp .ge 142, 3) := dk_162 0 142 (dk_at dksX0_laysLeft_2 12 rfl rfl)
theorem dX0_laysLeft_62 : decode cX0_laysLeft 62 = .ok (.aload_n 0, 1) := dk_42 (dk_at dksX0_laysLeft_2 15 rfl rfl)
theorem dX0_laysLeft_63 : decode cX0_laysLeft 63 = .ok (.getfield 12, 3) := dk_180 0 12 (dk_at dksX0_laysLeft_2 16 rfl rfl)
theorem dX0_laysLeft_66 : decode cX0_laysLeft 66 = .ok (.iload 4, 2) := dk_21 4 (dk_at dksX0_laysLeft_2 19 rfl rfl)
theorem dX0_laysLeft_68 : decode cX0_laysLeft 68 = .ok (.iload_n 2, 1) := dk_28 (dk_at dksX0_laysLeft_2 21 rfl rfl)
theorem dX0_laysLeft_69 : decode cX0_laysLeft 69 = .ok (.invokevirtual 175, 3) := dk_182 0 175 (dk_at dksX0_laysLeft_3 0 rfl rfl)
theorem dX0_laysLeft_72 : decode cX0_laysLeft 72 = .ok (.ifCond .ne 6, 3) := dk_154 0 6 (dk_at dksX0_laysLeft_3 3 rfl rfl)
theorem dX0_laysLeft_75 : decode cX0_laysLeft 75 = .ok (.goto 120, 3) := dk_167 0 120 (dk_at dksX0_laysLeft_3 6 rfl rfl)
theorem dX0_laysLeft_78 : decode cX0_laysLeft 78 = .ok (.aload_n 0, 1) := dk_42 (dk_at dksX0_laysLeft_3 9 rfl rfl)
theorem dX0_laysLeft_79 : decode cX0_laysLeft 79 = .ok (.getfield 12, 3) := dk_180 0 12 (dk_at dksX0_laysLeft_3 10 rfl rfl)
theorem dX0_laysLeft_82 : decode cX0_laysLeft 82 = .ok (.iload 4, 2) := dk_21 4 (dk_at dksX0_laysLeft_3 13 rfl rfl)
theorem dX0_laysLeft_84 : decode cX0_laysLeft 84 = .ok (.invokevirtual 179, 3) := dk_182 0 179 (dk_at dksX0_laysLeft_3 15 rfl rfl)
theorem dX0_laysLeft_87 : decode cX0_laysLeft 87 = .ok (.istore 5, 2) := dk_54 5 (dk_at dksX0_laysLeft_3 18 rfl rfl)
theorem dX0_laysLeft_89 : decode cX0_laysLeft 89 = .ok (.aload_n 0, 1) := dk_42 (dk_at dksX0_laysLeft_3 20 rfl rfl)
theorem dX0_laysLeft_90 : decode cX0_laysLeft 90 = .ok (.getfield 12, 3) := dk_180 0 12 (dk_at dksX0_laysLeft_3 21 rfl rfl)
theorem dX0_laysLeft_93 : decode cX0_laysLeft 93 = .ok (.iload 4, 2) := dk_21 4 (dk_at dksX0_laysLeft_4 0 rfl rfl)
theorem dX0_laysLeft_95 : decode cX0_laysLeft 95 = .ok (.invokevirtual 183, 3) := dk_182 0 183 (dk_at dksX0_laysLeft_4 2 rfl rfl)
theorem dX0_laysLeft_98 : decode cX0_laysLeft 98 = .ok (.istore 6, 2) := dk_54 6 (dk_at dksX0_laysLeft_4 5 rfl rfl)
theorem dX0_laysLeft_100 : decode cX0_laysLeft 100 = .ok (.aload_n 0, 1) := dk_42 (dk_at dksX0_laysLeft_4 7 rfl rfl)
theorem dX0_laysLeft_101 : decode cX0_laysLeft 101 = .ok (.getfield 60, 3) := dk_180 0 60 (dk_at dksX0_laysLeft_4 8 rfl rfl)
theorem dX0_laysLeft_104 : decode cX0_laysLeft 104 = .ok (.iload 5, 2) := dk_21 5 (dk_at dksX0_laysLeft_4 11 rfl rfl)
theorem dX0_laysLeft_106 : decode cX0_laysLeft 106 = .ok (.iaload, 1) := dk_46 (dk_at dksX0_laysLeft_4 13 rfl rfl)
theorem dX0_laysLeft_107 : decode cX0_laysLeft 107 = .ok (.aload_n 0, 1) := dk_42 (dk_at dksX0_laysLeft_4 14 rfl rfl)
theorem dX0_laysLeft_108 : decode cX0_laysLeft 108 = .ok (.getfield 60, 3) := dk_180 0 60 (dk_at dksX0_laysLeft_4 15 rfl rfl)
theorem dX0_laysLeft_111 : decode cX0_laysLeft 111 = .ok (.iload 6, 2) := dk_21 6 (dk_at dksX0_laysLeft_4 18 rfl rfl)
theorem dX0_laysLeft_113 : decode cX0_laysLeft 113 = .ok (.iaload, 1) := dk_46 (dk_at dksX0_laysLeft_4 20 rfl rfl)
theorem dX0_laysLeft_114 : decode cX0_laysLeft 114 = .ok (.invokestatic 186, 3) := dk_184 0 186 (dk_at dksX0_laysLeft_4 21 rfl rfl)
theorem dX0_laysLeft_117 : decode cX0_laysLeft 117 = .ok (.iconst 1, 1) := dk_4 (dk_at dksX0_laysLeft_5 0 rfl rfl)
theorem dX0_laysLeft_118 : decode cX0_laysLeft 118 = .ok (.iadd, 1) := dk_96 (dk_at dksX0_laysLeft_5 1 rfl rfl)
theorem dX0_laysLeft_119 : decode cX0_laysLeft 119 = .ok (.istore 7, 2) := dk_54 7 (dk_at dksX0_laysLeft_5 2 rfl rfl)
theorem dX0_laysLeft_121 : decode cX0_laysLeft 121 = .ok (.aload_n 0, 1) := dk_42 (dk_at dksX0_laysLeft_5 4 rfl rfl)
theorem dX0_laysLeft_122 : decode cX0_laysLeft 122 = .ok (.getfield 60, 3) := dk_180 0 60 (dk_at dksX0_laysLeft_5 5 rfl rfl)
theorem dX0_laysLeft_125 : decode cX0_laysLeft 125 = .ok (.iload 5, 2) := dk_21 5 (dk_at dksX0_laysLeft_5 8 rfl rfl)
theorem dX0_laysLeft_127 : decode cX0_laysLeft 127 = .ok (.iaload, 1) := dk_46 (dk_at dksX0_laysLeft_5 10 rfl rfl)
theorem dX0_laysLeft_128 : decode cX0_laysLeft 128 = .ok (.iload 7, 2) := dk_21 7 (dk_at dksX0_laysLeft_5 11 rfl rfl)
theorem dX0_laysLeft_130 : decode cX0_laysLeft 130 = .ok (.if_icmp .gt 15, 3) := dk_163 0 15 (dk_at dksX0_laysLeft_5 13 rfl rfl)
theorem dX0_laysLeft_133 : decode cX0_laysLeft 133 = .ok (.aload_n 0, 1) := dk_42 (dk_at dksX0_laysLeft_5 16 rfl rfl)
theorem dX0_laysLeft_134 : decode cX0_laysLeft 134 = .ok (.getfield 60, 3) := dk_180 0 60 (dk_at dksX0_laysLeft_5 17 rfl rfl)
theorem dX0_laysLeft_137 : decode cX0_laysLeft 137 = .ok (.iload 6, 2) := dk_21 6 (dk_at dksX0_laysLeft_5 20 rfl rfl)
theorem dX0_laysLeft_139 : decode cX0_laysLeft 139 = .ok (.iaload, 1) := dk_46 (dk_at dksX0_laysLeft_5 22 rfl rfl)
theorem dX0_laysLeft_140 : decode cX0_laysLeft 140 = .ok (.iload 7, 2) := dk_21 7 (dk_at dksX0_laysLeft_6 0 rfl rfl)
theorem dX0_laysLeft_142 : decode cX0_laysLeft 142 = .ok (.if_icmp .le 53, 3) := dk_164 0 53 (dk_at dksX0_laysLeft_6 2 rfl rfl)
theorem dX0_laysLeft_145 : decode cX0_laysLeft 145 = .ok (.iload 7, 2) := dk_21 7 (dk_at dksX0_laysLeft_6 5 rfl rfl)
theorem dX0_laysLeft_147 : decode cX0_laysLeft 147 = .ok (.bipush 99, 2) := dk_16 99 (dk_at dksX0_laysLeft_6 7 rfl rfl)
theorem dX0_laysLeft_149 : decode cX0_laysLeft 149 = .ok (.if_icmp .le 6, 3) := dk_164 0 6 (dk_at dksX0_laysLeft_6 9 rfl rfl)
theorem dX0_laysLeft_152 : decode cX0_laysLeft 152 = .ok (.goto 43, 3) := dk_167 0 43 (dk_at dksX0_laysLeft_6 12 rfl rfl)
theorem dX0_laysLeft_155 : decode cX0_laysLeft 155 = .ok (.aload_n 0, 1) := dk_42 (dk_at dksX0_laysLeft_6 15 rfl rfl)
theorem dX0_laysLeft_156 : decode cX0_laysLeft 156 = .ok (.getfield 60, 3) := dk_180 0 60 (dk_at dksX0_laysLeft_6 16 rfl rfl)
theorem dX0_laysLeft_159 : decode cX0_laysLeft 159 = .ok (.iload 5, 2) := dk_21 5 (dk_at dksX0_laysLeft_6 19 rfl rfl)
theorem dX0_laysLeft_161 : decode cX0_laysLeft 161 = .ok (.aload_n 0, 1) := dk_42 (dk_at dksX0_laysLeft_6 21 rfl rfl)
theorem dX0_laysLeft_162 : decode cX0_laysLeft 162 = .ok (.getfield 60, 3) := dk_180 0 60 (dk_at dksX0_laysLeft_7 0 rfl rfl)
theorem dX0_laysLeft_165 : decode cX0_laysLeft 165 = .ok (.iload 5, 2) := dk_21 5 (dk_at dksX0_laysLeft_7 3 rfl rfl)
theorem dX0_laysLeft_167 : decode cX0_laysLeft 167 = .ok (.iaload, 1) := dk_46 (dk_at dksX0_laysLeft_7 5 rfl rfl)
theorem dX0_laysLeft_168 : decode cX0_laysLeft 168 = .ok (.iload 7, 2) := dk_21 7 (dk_at dksX0_laysLeft_7 6 rfl rfl)
theorem dX0_laysLeft_170 : decode cX0_laysLeft 170 = .ok (.invokestatic 186, 3) := dk_184 0 186 (dk_at dksX0_laysLeft_7 8 rfl rfl)
theorem dX0_laysLeft_173 : decode cX0_laysLeft 173 = .ok (.iastore, 1) := dk_79 (dk_at dksX0_laysLeft_7 11 rfl rfl)
theorem dX0_laysLeft_174 : decode cX0_laysLeft 174 = .ok (.aload_n 0, 1) := dk_42 (dk_at dksX0_laysLeft_7 12 rfl rfl)
theorem dX0_laysLeft_175 : decode cX0_laysLeft 175 = .ok (.getfield 60, 3) := dk_180 0 60 (dk_at dksX0_laysLeft_7 13 rfl rfl)
theorem dX0_laysLeft_178 : decode cX0_laysLeft 178 = .ok (.iload 6, 2) := dk_21 6 (dk_at dksX0_laysLeft_7 16 rfl rfl)
theorem dX0_laysLeft_180 : decode cX0_laysLeft 180 = .ok (.aload_n 0, 1) := dk_42 (dk_at dksX0_laysLeft_7 18 rfl rfl)
theorem dX0_laysLeft_181 : decode cX0_laysLeft 181 = .ok (.getfield 60, 3) := dk_180 0 60 (dk_at dksX0_laysLeft_7 19 rfl rfl)
theorem dX0_laysLeft_184 : decode cX0_laysLeft 184 = .ok (.iload 6, 2) := dk_21 6 (dk_at dksX0_laysLeft_7 22 rfl rfl)
theorem dX0_laysLeft_186 : decode cX0_laysLeft 186 = .ok (.iaload, 1) := dk_46 (dk_at dksX0_laysLeft_8 0 rfl rfl)
theorem dX0_laysLeft_187 : decode cX0_laysLeft 187 = .ok (.iload 7, 2) := dk_21 7 (dk_at dksX0_laysLeft_8 1 rfl rfl)
theorem dX0_laysLeft_189 : decode cX0_laysLeft 189 = .ok (.invokestatic 186, 3) := dk_184 0 186 (dk_at dksX0_laysLeft_8 3 rfl rfl)
theorem dX0_laysLeft_192 : decode cX0_laysLeft 192 = .ok (.iastore, 1) := dk_79 (dk_at dksX0_laysLeft_8 6 rfl rfl)
theorem dX0_laysLeft_193 : decode cX0_laysLeft 193 = .ok (.iconst 1, 1) := dk_4 (dk_at dksX0_laysLeft_8 7 rfl rfl)
theorem dX0_laysLeft_194 : decode cX0_laysLeft 194 = .ok (.istore_n 3, 1) := dk_62 (dk_at dksX0_laysLeft_8 8 rfl rfl)
theorem dX0_laysLeft_195 : decode cX0_laysLeft 195 = .ok (.iinc 4 1, 3) := dk_132 4 1 (dk_at dksX0_laysLeft_8 9 rfl rfl)
theorem dX0_laysLeft_198 : decode cX0_laysLeft 198 = .ok (.goto (-151), 3) := dk_167 255 105 (dk_at dksX0_laysLeft_8 12 rfl rfl)
theorem dX0_laysLeft_201 : decode cX0_laysLeft 201 = .ok (.goto (-163), 3) := dk_167 255 93 (dk_at dksX0_laysLeft_8 15 rfl rfl)
theorem dX0_laysLeft_204 : decode cX0_laysLeft 204 = .ok (.return_, 1) := dk_177 (dk_at dksX0_laysLeft_8 18 rfl rfl)
abbrev cX0_stepOf : ByteArray := prog_1_method_19_code
def yX0_stepOf : MethodName := ⟨RX0, "stepOf", "(LOutwardDoors$State;I)I"⟩
def dkwX0_stepOf_3 : List UInt8 := [2, 159, 0, 6, 21, 4, 172, 132, 4, 1, 167, 255, 202, 2, 172]
abbrev dktX0_stepOf_3 : List UInt8 := dkwX0_stepOf_3 ++ []
def dkwX0_stepOf_2 : List UInt8 := [4, 100, 160, 0, 29, 42, 180, 0, 12, 43, 180, 0, 202, 28, 46, 21, 4, 43, 180, 0, 195, 182, 0, 209]
abbrev dktX0_stepOf_2 : List UInt8 := dkwX0_stepOf_2 ++ dktX0_stepOf_3
def dkwX0_stepOf_1 : List UInt8 := [172, 3, 54, 4, 21, 4, 42, 180, 0, 12, 180, 0, 123, 162, 0, 48, 42, 180, 0, 60, 21, 4, 46, 29]
abbrev dktX0_stepOf_1 : List UInt8 := dkwX0_stepOf_1 ++ dktX0_stepOf_2
def dkwX0_stepOf_0 : List UInt8 := [42, 43, 28, 43, 180, 0, 202, 28, 46, 182, 0, 205, 62, 29, 153, 0, 9, 29, 16, 99, 161, 0, 5, 2]
abbrev dktX0_stepOf_0 : List UInt8 := dkwX0_stepOf_0 ++ dktX0_stepOf_1
theorem dksX0_stepOf_0 : cX0_stepOf.data.toList.drop 0 = dktX0_stepOf_0 := by decide +kernel
theorem dksX0_stepOf_1 : cX0_stepOf.data.toList.drop 24 = dktX0_stepOf_1 := dk_seg dksX0_stepOf_0 24 rfl rfl
theorem dksX0_stepOf_2 : cX0_stepOf.data.toList.drop 48 = dktX0_stepOf_2 := dk_seg dksX0_stepOf_1 24 rfl rfl
theorem dksX0_stepOf_3 : cX0_stepOf.data.toList.drop 72 = dktX0_stepOf_3 := dk_seg dksX0_stepOf_2 24 rfl rfl
theorem dX0_stepOf_0 : decode cX0_stepOf 0 = .ok (.aload_n 0, 1) := dk_42 (dk_at dksX0_stepOf_0 0 rfl rfl)
theorem dX0_stepOf_1 : decode cX0_stepOf 1 = .ok (.aload_n 1, 1) := dk_43 (dk_at dksX0_stepOf_0 1 rfl rfl)
theorem dX0_stepOf_2 : decode cX0_stepOf 2 = .ok (.iload_n 2, 1) := dk_28 (dk_at dksX0_stepOf_0 2 rfl rfl)
theorem dX0_stepOf_3 : decode cX0_stepOf 3 = .ok (.aload_n 1, 1) := dk_43 (dk_at dksX0_stepOf_0 3 rfl rfl)
theorem dX0_stepOf_4 : decode cX0_stepOf 4 = .ok (.getfield 202, 3) := dk_180 0 202 (dk_at dksX0_stepOf_0 4 rfl rfl)
theorem dX0_stepOf_7 : decode cX0_stepOf 7 = .ok (.iload_n 2, 1) := dk_28 (dk_at dksX0_stepOf_0 7 rfl rfl)
theorem dX0_stepOf_8 : decode cX0_stepOf 8 = .ok (.iaload, 1) := dk_46 (dk_at dksX0_stepOf_0 8 rfl rfl)
theorem dX0_stepOf_9 : decode cX0_stepOf 9 = .ok (.invokevirtual 205, 3) := dk_182 0 205 (dk_at dksX0_stepOf_0 9 rfl rfl)
theorem dX0_stepOf_12 : decode cX0_stepOf 12 = .ok (.istore_n 3, 1) := dk_62 (dk_at dksX0_stepOf_0 12 rfl rfl)
theorem dX0_stepOf_13 : decode cX0_stepOf 13 = .ok (.iload_n 3, 1) := dk_29 (dk_at dksX0_stepOf_0 13 rfl rfl)
theorem dX0_stepOf_14 : decode cX0_stepOf 14 = .ok (.ifCond .eq 9, 3) := dk_153 0 9 (dk_at dksX0_stepOf_0 14 rfl rfl)
theorem dX0_stepOf_17 : decode cX0_stepOf 17 = .ok (.iload_n 3, 1) := dk_29 (dk_at dksX0_stepOf_0 17 rfl rfl)
theorem dX0_stepOf_18 : decode cX0_stepOf 18 = .ok (.bipush 99, 2) := dk_16 99 (dk_at dksX0_stepOf_0 18 rfl rfl)
theorem dX0_stepOf_20 : decode cX0_stepOf 20 = .ok (.if_icmp .lt 5, 3) := dk_161 0 5 (dk_at dksX0_stepOf_0 20 rfl rfl)
theorem dX0_stepOf_23 : decode cX0_stepOf 23 = .ok (.iconst (-1), 1) := dk_2 (dk_at dksX0_stepOf_0 23 rfl rfl)
theorem dX0_stepOf_24 : decode cX0_stepOf 24 = .ok (.ireturn, 1) := dk_172 (dk_at dksX0_stepOf_1 0 rfl rfl)
theorem dX0_stepOf_25 : decode cX0_stepOf 25 = .ok (.iconst 0, 1) := dk_3 (dk_at dksX0_stepOf_1 1 rfl rfl)
theorem dX0_stepOf_26 : decode cX0_stepOf 26 = .ok (.istore 4, 2) := dk_54 4 (dk_at dksX0_stepOf_1 2 rfl rfl)
theorem dX0_stepOf_28 : decode cX0_stepOf 28 = .ok (.iload 4, 2) := dk_21 4 (dk_at dksX0_stepOf_1 4 rfl rfl)
theorem dX0_stepOf_30 : decode cX0_stepOf 30 = .ok (.aload_n 0, 1) := dk_42 (dk_at dksX0_stepOf_1 6 rfl rfl)
theorem dX0_stepOf_31 : decode cX0_stepOf 31 = .ok (.getfield 12, 3) := dk_180 0 12 (dk_at dksX0_stepOf_1 7 rfl rfl)
theorem dX0_stepOf_34 : decode cX0_stepOf 34 = .ok (.getfield 123, 3) := dk_180 0 123 (dk_at dksX0_stepOf_1 10 rfl rfl)
theorem dX0_stepOf_37 : decode cX0_stepOf 37 = .ok (.if_icmp .ge 48, 3) := dk_162 0 48 (dk_at dksX0_stepOf_1 13 rfl rfl)
theorem dX0_stepOf_40 : decode cX0_stepOf 40 = .ok (.aload_n 0, 1) := dk_42 (dk_at dksX0_stepOf_1 16 rfl rfl)
theorem dX0_stepOf_41 : decode cX0_stepOf 41 = .ok (.getfield 60, 3) := dk_180 0 60 (dk_at dksX0_stepOf_1 17 rfl rfl)
theorem dX0_stepOf_44 : decode cX0_stepOf 44 = .ok (.iload 4, 2) := dk_21 4 (dk_at dksX0_stepOf_1 20 rfl rfl)
theorem dX0_stepOf_46 : decode cX0_stepOf 46 = .ok (.iaload, 1) := dk_46 (dk_at dksX0_stepOf_1 22 rfl rfl)
theorem dX0_stepOf_47 : decode cX0_stepOf 47 = .ok (.iload_n 3, 1) := dk_29 (dk_at dksX0_stepOf_1 23 rfl rfl)
theorem dX0_stepOf_48 : decode cX0_stepOf 48 = .ok (.iconst 1, 1) := dk_4 (dk_at dksX0_stepOf_2 0 rfl rfl)
theorem dX0_stepOf_49 : decode cX0_stepOf 49 = .ok (.isub, 1) := dk_100 (dk_at dksX0_stepOf_2 1 rfl rfl)
theorem dX0_stepOf_50 : decode cX0_stepOf 50 = .ok (.if_icmp .ne 29, 3) := dk_160 0 29 (dk_at dksX0_stepOf_2 2 rfl rfl)
theorem dX0_stepOf_53 : decode cX0_stepOf 53 = .ok (.aload_n 0, 1) := dk_42 (dk_at dksX0_stepOf_2 5 rfl rfl)
theorem dX0_stepOf_54 : decode cX0_stepOf 54 = .ok (.getfield 12, 3) := dk_180 0 12 (dk_at dksX0_stepOf_2 6 rfl rfl)
theorem dX0_stepOf_57 : decode cX0_stepOf 57 = .ok (.aload_n 1, 1) := dk_43 (dk_at dksX0_stepOf_2 9 rfl rfl)
theorem dX0_stepOf_58 : decode cX0_stepOf 58 = .ok (.getfield 202, 3) := dk_180 0 202 (dk_at dksX0_stepOf_2 10 rfl rfl)
theorem dX0_stepOf_61 : decode cX0_stepOf 61 = .ok (.iload_n 2, 1) := dk_28 (dk_at dksX0_stepOf_2 13 rfl rfl)
theorem dX0_stepOf_62 : decode cX0_stepOf 62 = .ok (.iaload, 1) := dk_46 (dk_at dksX0_stepOf_2 14 rfl rfl)
theorem dX0_stepOf_63 : decode cX0_stepOf 63 = .ok (.iload 4, 2) := dk_21 4 (dk_at dksX0_stepOf_2 15 rfl rfl)
theorem dX0_stepOf_65 : decode cX0_stepOf 65 = .ok (.aload_n 1, 1) := dk_43 (dk_at dksX0_stepOf_2 17 rfl rfl)
theorem dX0_stepOf_66 : decode cX0_stepOf 66 = .ok (.getfield 195, 3) := dk_180 0 195 (dk_at dksX0_stepOf_2 18 rfl rfl)
theorem dX0_stepOf_69 : decode cX0_stepOf 69 = .ok (.invokevirtual 209, 3) := dk_182 0 209 (dk_at dksX0_stepOf_2 21 rfl rfl)
theorem dX0_stepOf_72 : decode cX0_stepOf 72 = .ok (.iconst (-1), 1) := dk_2 (dk_at dksX0_stepOf_3 0 rfl rfl)
theorem dX0_stepOf_73 : decode cX0_stepOf 73 = .ok (.if_icmp .eq 6, 3) := dk_159 0 6 (dk_at dksX0_stepOf_3 1 rfl rfl)
theorem dX0_stepOf_76 : decode cX0_stepOf 76 = .ok (.iload 4, 2) := dk_21 4 (dk_at dksX0_stepOf_3 4 rfl rfl)
theorem dX0_stepOf_78 : decode cX0_stepOf 78 = .ok (.ireturn, 1) := dk_172 (dk_at dksX0_stepOf_3 6 rfl rfl)
theorem dX0_stepOf_79 : decode cX0_stepOf 79 = .ok (.iinc 4 1, 3) := dk_132 4 1 (dk_at dksX0_stepOf_3 7 rfl rfl)
theorem dX0_stepOf_82 : decode cX0_stepOf 82 = .ok (.goto (-54), 3) := dk_167 255 202 (dk_at dksX0_stepOf_3 10 rfl rfl)
theorem dX0_stepOf_85 : decode cX0_stepOf 85 = .ok (.iconst (-1), 1) := dk_2 (dk_at dksX0_stepOf_3 13 rfl rfl)
theorem dX0_stepOf_86 : decode cX0_stepOf 86 = .ok (.ireturn, 1) := dk_172 (dk_at dksX0_stepOf_3 14 rfl rfl)
abbrev cX0_room : ByteArray := prog_1_method_23_code
def yX0_room : MethodName := ⟨RX0, "room", "(II)I"⟩
def dkwX0_room_2 : List UInt8 := [42, 180, 0, 12, 180, 0, 248, 27, 46, 172, 42, 27, 182, 0, 251, 172, 42, 27, 182, 0, 254, 172, 2, 172]
abbrev dktX0_room_2 : List UInt8 := dkwX0_room_2 ++ []
def dkwX0_room_1 : List UInt8 := [170, 0, 0, 0, 47, 0, 0, 0, 0, 0, 0, 0, 2, 0, 0, 0, 25, 0, 0, 0, 35, 0, 0, 0, 41]
abbrev dktX0_room_1 : List UInt8 := dkwX0_room_1 ++ dktX0_room_2
def dkwX0_room_0 : List UInt8 := [42, 27, 182, 0, 245, 154, 0, 5, 2, 172, 28]
abbrev dktX0_room_0 : List UInt8 := dkwX0_room_0 ++ dktX0_room_1
theorem dksX0_room_0 : cX0_room.data.toList.drop 0 = dktX0_room_0 := by decide +kernel
theorem dksX0_room_1 : cX0_room.data.toList.drop 11 = dktX0_room_1 := dk_seg dksX0_room_0 11 rfl rfl
theorem dksX0_room_2 : cX0_room.data.toList.drop 36 = dktX0_room_2 := dk_seg dksX0_room_1 25 rfl rfl
theorem dX0_room_0 : decode cX0_room 0 = .ok (.aload_n 0, 1) := dk_42 (dk_at dksX0_room_0 0 rfl rfl)
theorem dX0_room_1 : decode cX0_room 1 = .ok (.iload_n 1, 1) := dk_27 (dk_at dksX0_room_0 1 rfl rfl)
theorem dX0_room_2 : decode cX0_room 2 = .ok (.invokevirtual 245, 3) := dk_182 0 245 (dk_at dksX0_room_0 2 rfl rfl)
theorem dX0_room_5 : decode cX0_room 5 = .ok (.ifCond .ne 5, 3) := dk_154 0 5 (dk_at dksX0_room_0 5 rfl rfl)
theorem dX0_room_8 : decode cX0_room 8 = .ok (.iconst (-1), 1) := dk_2 (dk_at dksX0_room_0 8 rfl rfl)
theorem dX0_room_9 : decode cX0_room 9 = .ok (.ireturn, 1) := dk_172 (dk_at dksX0_room_0 9 rfl rfl)
theorem dX0_room_10 : decode cX0_room 10 = .ok (.iload_n 2, 1) := dk_28 (dk_at dksX0_room_0 10 rfl rfl)
theorem dX0_room_11 : decode cX0_room 11 = .ok (.tableswitch 47 0 2 #[25, 35, 41], 25) := by decide +kernel
theorem dX0_room_36 : decode cX0_room 36 = .ok (.aload_n 0, 1) := dk_42 (dk_at dksX0_room_2 0 rfl rfl)
theorem dX0_room_37 : decode cX0_room 37 = .ok (.getfield 12, 3) := dk_180 0 12 (dk_at dksX0_room_2 1 rfl rfl)
theorem dX0_room_40 : decode cX0_room 40 = .ok (.getfield 248, 3) := dk_180 0 248 (dk_at dksX0_room_2 4 rfl rfl)
theorem dX0_room_43 : decode cX0_room 43 = .ok (.iload_n 1, 1) := dk_27 (dk_at dksX0_room_2 7 rfl rfl)
theorem dX0_room_44 : decode cX0_room 44 = .ok (.iaload, 1) := dk_46 (dk_at dksX0_room_2 8 rfl rfl)
theorem dX0_room_45 : decode cX0_room 45 = .ok (.ireturn, 1) := dk_172 (dk_at dksX0_room_2 9 rfl rfl)
theorem dX0_room_46 : decode cX0_room 46 = .ok (.aload_n 0, 1) := dk_42 (dk_at dksX0_room_2 10 rfl rfl)
theorem dX0_room_47 : decode cX0_room 47 = .ok (.iload_n 1, 1) := dk_27 (dk_at dksX0_room_2 11 rfl rfl)
theorem dX0_room_48 : decode cX0_room 48 = .ok (.invokevirtual 251, 3) := dk_182 0 251 (dk_at dksX0_room_2 12 rfl rfl)
theorem dX0_room_51 : decode cX0_room 51 = .ok (.ireturn, 1) := dk_172 (dk_at dksX0_room_2 15 rfl rfl)
theorem dX0_room_52 : decode cX0_room 52 = .ok (.aload_n 0, 1) := dk_42 (dk_at dksX0_room_2 16 rfl rfl)
theorem dX0_room_53 : decode cX0_room 53 = .ok (.iload_n 1, 1) := dk_27 (dk_at dksX0_room_2 17 rfl rfl)
theorem dX0_room_54 : decode cX0_room 54 = .ok (.invokevirtual 254, 3) := dk_182 0 254 (dk_at dksX0_room_2 18 rfl rfl)
theorem dX0_room_57 : decode cX0_room 57 = .ok (.ireturn, 1) := dk_172 (dk_at dksX0_room_2 21 rfl rfl)
theorem dX0_room_58 : decode cX0_room 58 = .ok (.iconst (-1), 1) := dk_2 (dk_at dksX0_room_2 22 rfl rfl)
theorem dX0_room_59 : decode cX0_room 59 = .ok (.ireturn, 1) := dk_172 (dk_at dksX0_room_2 23 rfl rfl)
abbrev cX0_isRoom : ByteArray := prog_1_method_7_code
def yX0_isRoom : MethodName := ⟨RX0, "isRoom", "(I)Z"⟩
def dkwX0_isRoom_0 : List UInt8 := [27, 133, 9, 42, 180, 0, 12, 180, 0, 123, 4, 100, 133, 184, 0, 129, 172]
abbrev dktX0_isRoom_0 : List UInt8 := dkwX0_isRoom_0 ++ []
theorem dksX0_isRoom_0 : cX0_isRoom.data.toList.drop 0 = dktX0_isRoom_0 := by decide +kernel
theorem dX0_isRoom_0 : decode cX0_isRoom 0 = .ok (.iload_n 1, 1) := dk_27 (dk_at dksX0_isRoom_0 0 rfl rfl)
theorem dX0_isRoom_1 : decode cX0_isRoom 1 = .ok (.i2l, 1) := dk_133 (dk_at dksX0_isRoom_0 1 rfl rfl)
theorem dX0_isRoom_2 : decode cX0_isRoom 2 = .ok (.lconst 0, 1) := dk_9 (dk_at dksX0_isRoom_0 2 rfl rfl)
theorem dX0_isRoom_3 : decode cX0_isRoom 3 = .ok (.aload_n 0, 1) := dk_42 (dk_at dksX0_isRoom_0 3 rfl rfl)
theorem dX0_isRoom_4 : decode cX0_isRoom 4 = .ok (.getfield 12, 3) := dk_180 0 12 (dk_at dksX0_isRoom_0 4 rfl rfl)
theorem dX0_isRoom_7 : decode cX0_isRoom 7 = .ok (.getfield 123, 3) := dk_180 0 123 (dk_at dksX0_isRoom_0 7 rfl rfl)
theorem dX0_isRoom_10 : decode cX0_isRoom 10 = .ok (.iconst 1, 1) := dk_4 (dk_at dksX0_isRoom_0 10 rfl rfl)
theorem dX0_isRoom_11 : decode cX0_isRoom 11 = .ok (.isub, 1) := dk_100 (dk_at dksX0_isRoom_0 11 rfl rfl)
theorem dX0_isRoom_12 : decode cX0_isRoom 12 = .ok (.i2l, 1) := dk_133 (dk_at dksX0_isRoom_0 12 rfl rfl)
theorem dX0_isRoom_13 : decode cX0_isRoom 13 = .ok (.invokestatic 129, 3) := dk_184 0 129 (dk_at dksX0_isRoom_0 13 rfl rfl)
theorem dX0_isRoom_16 : decode cX0_isRoom 16 = .ok (.ireturn, 1) := dk_172 (dk_at dksX0_isRoom_0 16 rfl rfl)
abbrev cX0_whoIn : ByteArray := prog_1_method_20_code
def yX0_whoIn : MethodName := ⟨RX0, "whoIn", "(I)I"⟩
def dkwX0_whoIn_1 : List UInt8 := [46, 27, 160, 0, 9, 4, 29, 120, 167, 0, 4, 3, 128, 61, 132, 3, 1, 167, 255, 219, 28, 172]
abbrev dktX0_whoIn_1 : List UInt8 := dkwX0_whoIn_1 ++ []
def dkwX0_whoIn_0 : List UInt8 := [3, 61, 3, 62, 29, 42, 180, 0, 12, 182, 0, 125, 162, 0, 32, 28, 42, 180, 0, 19, 180, 0, 202, 29]
abbrev dktX0_whoIn_0 : List UInt8 := dkwX0_whoIn_0 ++ dktX0_whoIn_1
theorem dksX0_whoIn_0 : cX0_whoIn.data.toList.drop 0 = dktX0_whoIn_0 := by decide +kernel
theorem dksX0_whoIn_1 : cX0_whoIn.data.toList.drop 24 = dktX0_whoIn_1 := dk_seg dksX0_whoIn_0 24 rfl rfl
theorem dX0_whoIn_0 : decode cX0_whoIn 0 = .ok (.iconst 0, 1) := dk_3 (dk_at dksX0_whoIn_0 0 rfl rfl)
theorem dX0_whoIn_1 : decode cX0_whoIn 1 = .ok (.istore_n 2, 1) := dk_61 (dk_at dksX0_whoIn_0 1 rfl rfl)
theorem dX0_whoIn_2 : decode cX0_whoIn 2 = .ok (.iconst 0, 1) := dk_3 (dk_at dksX0_whoIn_0 2 rfl rfl)
theorem dX0_whoIn_3 : decode cX0_whoIn 3 = .ok (.istore_n 3, 1) := dk_62 (dk_at dksX0_whoIn_0 3 rfl rfl)
theorem dX0_whoIn_4 : decode cX0_whoIn 4 = .ok (.iload_n 3, 1) := dk_29 (dk_at dksX0_whoIn_0 4 rfl rfl)
theorem dX0_whoIn_5 : decode cX0_whoIn 5 = .ok (.aload_n 0, 1) := dk_42 (dk_at dksX0_whoIn_0 5 rfl rfl)
theorem dX0_whoIn_6 : decode cX0_whoIn 6 = .ok (.getfield 12, 3) := dk_180 0 12 (dk_at dksX0_whoIn_0 6 rfl rfl)
theorem dX0_whoIn_9 : decode cX0_whoIn 9 = .ok (.invokevirtual 125, 3) := dk_182 0 125 (dk_at dksX0_whoIn_0 9 rfl rfl)
theorem dX0_whoIn_12 : decode cX0_whoIn 12 = .ok (.if_icmp .ge 32, 3) := dk_162 0 32 (dk_at dksX0_whoIn_0 12 rfl rfl)
theorem dX0_whoIn_15 : decode cX0_whoIn 15 = .ok (.iload_n 2, 1) := dk_28 (dk_at dksX0_whoIn_0 15 rfl rfl)
theorem dX0_whoIn_16 : decode cX0_whoIn 16 = .ok (.aload_n 0, 1) := dk_42 (dk_at dksX0_whoIn_0 16 rfl rfl)
theorem dX0_whoIn_17 : decode cX0_whoIn 17 = .ok (.getfield 19, 3) := dk_180 0 19 (dk_at dksX0_whoIn_0 17 rfl rfl)
theorem dX0_whoIn_20 : decode cX0_whoIn 20 = .ok (.getfield 202, 3) := dk_180 0 202 (dk_at dksX0_whoIn_0 20 rfl rfl)
theorem dX0_whoIn_23 : decode cX0_whoIn 23 = .ok (.iload_n 3, 1) := dk_29 (dk_at dksX0_whoIn_0 23 rfl rfl)
theorem dX0_whoIn_24 : decode cX0_whoIn 24 = .ok (.iaload, 1) := dk_46 (dk_at dksX0_whoIn_1 0 rfl rfl)
theorem dX0_whoIn_25 : decode cX0_whoIn 25 = .ok (.iload_n 1, 1) := dk_27 (dk_at dksX0_whoIn_1 1 rfl rfl)
theorem dX0_whoIn_26 : decode cX0_whoIn 26 = .ok (.if_icmp .ne 9, 3) := dk_160 0 9 (dk_at dksX0_whoIn_1 2 rfl rfl)
theorem dX0_whoIn_29 : decode cX0_whoIn 29 = .ok (.iconst 1, 1) := dk_4 (dk_at dksX0_whoIn_1 5 rfl rfl)
theorem dX0_whoIn_30 : decode cX0_whoIn 30 = .ok (.iload_n 3, 1) := dk_29 (dk_at dksX0_whoIn_1 6 rfl rfl)
theorem dX0_whoIn_31 : decode cX0_whoIn 31 = .ok (.ishl, 1) := dk_120 (dk_at dksX0_whoIn_1 7 rfl rfl)
theorem dX0_whoIn_32 : decode cX0_whoIn 32 = .ok (.goto 4, 3) := dk_167 0 4 (dk_at dksX0_whoIn_1 8 rfl rfl)
theorem dX0_whoIn_35 : decode cX0_whoIn 35 = .ok (.iconst 0, 1) := dk_3 (dk_at dksX0_whoIn_1 11 rfl rfl)
theorem dX0_whoIn_36 : decode cX0_whoIn 36 = .ok (.ior, 1) := dk_128 (dk_at dksX0_whoIn_1 12 rfl rfl)
theorem dX0_whoIn_37 : decode cX0_whoIn 37 = .ok (.istore_n 2, 1) := dk_61 (dk_at dksX0_whoIn_1 13 rfl rfl)
theorem dX0_whoIn_38 : decode cX0_whoIn 38 = .ok (.iinc 3 1, 3) := dk_132 3 1 (dk_at dksX0_whoIn_1 14 rfl rfl)
theorem dX0_whoIn_41 : decode cX0_whoIn 41 = .ok (.goto (-37), 3) := dk_167 255 219 (dk_at dksX0_whoIn_1 17 rfl rfl)
theorem dX0_whoIn_44 : decode cX0_whoIn 44 = .ok (.iload_n 2, 1) := dk_28 (dk_at dksX0_whoIn_1 20 rfl rfl)
theorem dX0_whoIn_45 : decode cX0_whoIn 45 = .ok (.ireturn, 1) := dk_172 (dk_at dksX0_whoIn_1 21 rfl rfl)
abbrev cX0_outsideOf : ByteArray := prog_1_method_21_code
def yX0_outsideOf : MethodName := ⟨RX0, "outsideOf", "(I)I"⟩
def dkwX0_outsideOf_4 : List UInt8 := [4, 167, 0, 4, 3, 62, 167, 255, 164, 28, 4, 27, 120, 2, 130, 126, 172]
abbrev dktX0_outsideOf_4 : List UInt8 := dkwX0_outsideOf_4 ++ []
def dkwX0_outsideOf_3 : List UInt8 := [42, 180, 0, 12, 21, 5, 182, 0, 183, 120, 128, 61, 132, 5, 1, 167, 255, 189, 28, 21, 4, 159, 0, 7]
abbrev dktX0_outsideOf_3 : List UInt8 := dkwX0_outsideOf_3 ++ dktX0_outsideOf_4
def dkwX0_outsideOf_2 : List UInt8 := [182, 0, 175, 153, 0, 33, 28, 42, 180, 0, 12, 21, 5, 182, 0, 179, 184, 0, 213, 153, 0, 17, 28, 4]
abbrev dktX0_outsideOf_2 : List UInt8 := dkwX0_outsideOf_2 ++ dktX0_outsideOf_3
def dkwX0_outsideOf_1 : List UInt8 := [180, 0, 133, 182, 0, 136, 162, 0, 58, 42, 180, 0, 12, 21, 5, 42, 180, 0, 19, 180, 0, 195]
abbrev dktX0_outsideOf_1 : List UInt8 := dkwX0_outsideOf_1 ++ dktX0_outsideOf_2
def dkwX0_outsideOf_0 : List UInt8 := [4, 27, 120, 61, 4, 62, 29, 153, 0, 94, 28, 54, 4, 3, 54, 5, 21, 5, 42, 180, 0, 12]
abbrev dktX0_outsideOf_0 : List UInt8 := dkwX0_outsideOf_0 ++ dktX0_outsideOf_1
theorem dksX0_outsideOf_0 : cX0_outsideOf.data.toList.drop 0 = dktX0_outsideOf_0 := by decide +kernel
theorem dksX0_outsideOf_1 : cX0_outsideOf.data.toList.drop 22 = dktX0_outsideOf_1 := dk_seg dksX0_outsideOf_0 22 rfl rfl
theorem dksX0_outsideOf_2 : cX0_outsideOf.data.toList.drop 44 = dktX0_outsideOf_2 := dk_seg dksX0_outsideOf_1 22 rfl rfl
theorem dksX0_outsideOf_3 : cX0_outsideOf.data.toList.drop 68 = dktX0_outsideOf_3 := dk_seg dksX0_outsideOf_2 24 rfl rfl
theorem dksX0_outsideOf_4 : cX0_outsideOf.data.toList.drop 92 = dktX0_outsideOf_4 := dk_seg dksX0_outsideOf_3 24 rfl rfl
theorem dX0_outsideOf_0 : decode cX0_outsideOf 0 = .ok (.iconst 1, 1) := dk_4 (dk_at dksX0_outsideOf_0 0 rfl rfl)
theorem dX0_outsideOf_1 : decode cX0_outsideOf 1 = .ok (.iload_n 1, 1) := dk_27 (dk_at dksX0_outsideOf_0 1 rfl rfl)
theorem dX0_outsideOf_2 : decode cX0_outsideOf 2 = .ok (.ishl, 1) := dk_120 (dk_at dksX0_outsideOf_0 2 rfl rfl)
theorem dX0_outsideOf_3 : decode cX0_outsideOf 3 = .ok (.istore_n 2, 1) := dk_61 (dk_at dksX0_outsideOf_0 3 rfl rfl)
theorem dX0_outsideOf_4 : decode cX0_outsideOf 4 = .ok (.iconst 1, 1) := dk_4 (dk_at dksX0_outsideOf_0 4 rfl rfl)
theorem dX0_outsideOf_5 : decode cX0_outsideOf 5 = .ok (.istore_n 3, 1) := dk_62 (dk_at dksX0_outsideOf_0 5 rfl rfl)
theorem dX0_outsideOf_6 : decode cX0_outsideOf 6 = .ok (.iload_n 3, 1) := dk_29 (dk_at dksX0_outsideOf_0 6 rfl rfl)
theorem dX0_outsideOf_7 : decode cX0_outsideOf 7 = .ok (.ifCond .eq 94, 3) := dk_153 0 94 (dk_at dksX0_outsideOf_0 7 rfl rfl)
theorem dX0_outsideOf_10 : decode cX0_outsideOf 10 = .ok (.iload_n 2, 1) := dk_28 (dk_at dksX0_outsideOf_0 10 rfl rfl)
theorem dX0_outsideOf_11 : decode cX0_outsideOf 11 = .ok (.istore 4, 2) := dk_54 4 (dk_at dksX0_outsideOf_0 11 rfl rfl)
theorem dX0_outsideOf_13 : decode cX0_outsideOf 13 = .ok (.iconst 0, 1) := dk_3 (dk_at dksX0_outsideOf_0 13 rfl rfl)
theorem dX0_outsideOf_14 : decode cX0_outsideOf 14 = .ok (.istore 5, 2) := dk_54 5 (dk_at dksX0_outsideOf_0 14 rfl rfl)
theorem dX0_outsideOf_16 : decode cX0_outsideOf 16 = .ok (.iload 5, 2) := dk_21 5 (dk_at dksX0_outsideOf_0 16 rfl rfl)
theorem dX0_outsideOf_18 : decode cX0_outsideOf 18 = .ok (.aload_n 0, 1) := dk_42 (dk_at dksX0_outsideOf_0 18 rfl rfl)
theorem dX0_outsideOf_19 : decode cX0_outsideOf 19 = .ok (.getfield 12, 3) := dk_180 0 12 (dk_at dksX0_outsideOf_0 19 rfl rfl)
theorem dX0_outsideOf_22 : decode cX0_outsideOf 22 = .ok (.getfield 133, 3) := dk_180 0 133 (dk_at dksX0_outsideOf_1 0 rfl rfl)
theorem dX0_outsideOf_25 : decode cX0_outsideOf 25 = .ok (.invokevirtual 136, 3) := dk_182 0 136 (dk_at dksX0_outsideOf_1 3 rfl rfl)
theorem dX0_outsideOf_28 : decode cX0_outsideOf 28 = .ok (.if_icmp .ge 58, 3) := dk_162 0 58 (dk_at dksX0_outsideOf_1 6 rfl rfl)
theorem dX0_outsideOf_31 : decode cX0_outsideOf 31 = .ok (.aload_n 0, 1) := dk_42 (dk_at dksX0_outsideOf_1 9 rfl rfl)
theorem dX0_outsideOf_32 : decode cX0_outsideOf 32 = .ok (.getfield 12, 3) := dk_180 0 12 (dk_at dksX0_outsideOf_1 10 rfl rfl)
theorem dX0_outsideOf_35 : decode cX0_outsideOf 35 = .ok (.iload 5, 2) := dk_21 5 (dk_at dksX0_outsideOf_1 13 rfl rfl)
theorem dX0_outsideOf_37 : decode cX0_outsideOf 37 = .ok (.aload_n 0, 1) := dk_42 (dk_at dksX0_outsideOf_1 15 rfl rfl)
theorem dX0_outsideOf_38 : decode cX0_outsideOf 38 = .ok (.getfield 19, 3) := dk_180 0 19 (dk_at dksX0_outsideOf_1 16 rfl rfl)
theorem dX0_outsideOf_41 : decode cX0_outsideOf 41 = .ok (.getfield 195, 3) := dk_180 0 195 (dk_at dksX0_outsideOf_1 19 rfl rfl)
theorem dX0_outsideOf_44 : decode cX0_outsideOf 44 = .ok (.invokevirtual 175, 3) := dk_182 0 175 (dk_at dksX0_outsideOf_2 0 rfl rfl)
theorem dX0_outsideOf_47 : decode cX0_outsideOf 47 = .ok (.ifCond .eq 33, 3) := dk_153 0 33 (dk_at dksX0_outsideOf_2 3 rfl rfl)
theorem dX0_outsideOf_50 : decode cX0_outsideOf 50 = .ok (.iload_n 2, 1) := dk_28 (dk_at dksX0_outsideOf_2 6 rfl rfl)
theorem dX0_outsideOf_51 : decode cX0_outsideOf 51 = .ok (.aload_n 0, 1) := dk_42 (dk_at dksX0_outsideOf_2 7 rfl rfl)
theorem dX0_outsideOf_52 : decode cX0_outsideOf 52 = .ok (.getfield 12, 3) := dk_180 0 12 (dk_at dksX0_outsideOf_2 8 rfl rfl)
theorem dX0_outsideOf_55 : decode cX0_outsideOf 55 = .ok (.iload 5, 2) := dk_21 5 (dk_at dksX0_outsideOf_2 11 rfl rfl)
theorem dX0_outsideOf_57 : decode cX0_outsideOf 57 = .ok (.invokevirtual 179, 3) := dk_182 0 179 (dk_at dksX0_outsideOf_2 13 rfl rfl)
theorem dX0_outsideOf_60 : decode cX0_outsideOf 60 = .ok (.invokestatic 213, 3) := dk_184 0 213 (dk_at dksX0_outsideOf_2 16 rfl rfl)
theorem dX0_outsideOf_63 : decode cX0_outsideOf 63 = .ok (.ifCond .eq 17, 3) := dk_153 0 17 (dk_at dksX0_outsideOf_2 19 rfl rfl)
theorem dX0_outsideOf_66 : decode cX0_outsideOf 66 = .ok (.iload_n 2, 1) := dk_28 (dk_at dksX0_outsideOf_2 22 rfl rfl)
theorem dX0_outsideOf_67 : decode cX0_outsideOf 67 = .ok (.iconst 1, 1) := dk_4 (dk_at dksX0_outsideOf_2 23 rfl rfl)
theorem dX0_outsideOf_68 : decode cX0_outsideOf 68 = .ok (.aload_n 0, 1) := dk_42 (dk_at dksX0_outsideOf_3 0 rfl rfl)
theorem dX0_outsideOf_69 : decode cX0_outsideOf 69 = .ok (.getfield 12, 3) := dk_180 0 12 (dk_at dksX0_outsideOf_3 1 rfl rfl)
theorem dX0_outsideOf_72 : decode cX0_outsideOf 72 = .ok (.iload 5, 2) := dk_21 5 (dk_at dksX0_outsideOf_3 4 rfl rfl)
theorem dX0_outsideOf_74 : decode cX0_outsideOf 74 = .ok (.invokevirtual 183, 3) := dk_182 0 183 (dk_at dksX0_outsideOf_3 6 rfl rfl)
theorem dX0_outsideOf_77 : decode cX0_outsideOf 77 = .ok (.ishl, 1) := dk_120 (dk_at dksX0_outsideOf_3 9 rfl rfl)
theorem dX0_outsideOf_78 : decode cX0_outsideOf 78 = .ok (.ior, 1) := dk_128 (dk_at dksX0_outsideOf_3 10 rfl rfl)
theorem dX0_outsideOf_79 : decode cX0_outsideOf 79 = .ok (.istore_n 2, 1) := dk_61 (dk_at dksX0_outsideOf_3 11 rfl rfl)
theorem dX0_outsideOf_80 : decode cX0_outsideOf 80 = .ok (.iinc 5 1, 3) := dk_132 5 1 (dk_at dksX0_outsideOf_3 12 rfl rfl)
theorem dX0_outsideOf_83 : decode cX0_outsideOf 83 = .ok (.goto (-67), 3) := dk_167 255 189 (dk_at dksX0_outsideOf_3 15 rfl rfl)
theorem dX0_outsideOf_86 : decode cX0_outsideOf 86 = .ok (.iload_n 2, 1) := dk_28 (dk_at dksX0_outsideOf_3 18 rfl rfl)
theorem dX0_outsideOf_87 : decode cX0_outsideOf 87 = .ok (.iload 4, 2) := dk_21 4 (dk_at dksX0_outsideOf_3 19 rfl rfl)
theorem dX0_outsideOf_89 : decode cX0_outsideOf 89 = .ok (.if_icmp .eq 7, 3) := dk_159 0 7 (dk_at dksX0_outsideOf_3 21 rfl rfl)
theorem dX0_outsideOf_92 : decode cX0_outsideOf 92 = .ok (.iconst 1, 1) := dk_4 (dk_at dksX0_outsideOf_4 0 rfl rfl)
theorem dX0_outsideOf_93 : decode cX0_outsideOf 93 = .ok (.goto 4, 3) := dk_167 0 4 (dk_at dksX0_outsideOf_4 1 rfl rfl)
theorem dX0_outsideOf_96 : decode cX0_outsideOf 96 = .ok (.iconst 0, 1) := dk_3 (dk_at dksX0_outsideOf_4 4 rfl rfl)
theorem dX0_outsideOf_97 : decode cX0_outsideOf 97 = .ok (.istore_n 3, 1) := dk_62 (dk_at dksX0_outsideOf_4 5 rfl rfl)
theorem dX0_outsideOf_98 : decode cX0_outsideOf 98 = .ok (.goto (-92), 3) := dk_167 255 164 (dk_at dksX0_outsideOf_4 6 rfl rfl)
theorem dX0_outsideOf_101 : decode cX0_outsideOf 101 = .ok (.iload_n 2, 1) := dk_28 (dk_at dksX0_outsideOf_4 9 rfl rfl)
theorem dX0_outsideOf_102 : decode cX0_outsideOf 102 = .ok (.iconst 1, 1) := dk_4 (dk_at dksX0_outsideOf_4 10 rfl rfl)
theorem dX0_outsideOf_103 : decode cX0_outsideOf 103 = .ok (.iload_n 1, 1) := dk_27 (dk_at dksX0_outsideOf_4 11 rfl rfl)
theorem dX0_outsideOf_104 : decode cX0_outsideOf 104 = .ok (.ishl, 1) := dk_120 (dk_at dksX0_outsideOf_4 12 rfl rfl)
theorem dX0_outsideOf_105 : decode cX0_outsideOf 105 = .ok (.iconst (-1), 1) := dk_2 (dk_at dksX0_outsideOf_4 13 rfl rfl)
theorem dX0_outsideOf_106 : decode cX0_outsideOf 106 = .ok (.ixor, 1) := dk_130 (dk_at dksX0_outsideOf_4 14 rfl rfl)
theorem dX0_outsideOf_107 : decode cX0_outsideOf 107 = .ok (.iand, 1) := dk_126 (dk_at dksX0_outsideOf_4 15 rfl rfl)
theorem dX0_outsideOf_108 : decode cX0_outsideOf 108 = .ok (.ireturn, 1) := dk_172 (dk_at dksX0_outsideOf_4 16 rfl rfl)
abbrev cX0_has : ByteArray := prog_1_method_2_code
def yX0_has : MethodName := ⟨RX0, "has", "(II)Z"⟩
def dkwX0_has_0 : List UInt8 := [26, 27, 122, 4, 126, 4, 160, 0, 7, 4, 167, 0, 4, 3, 172]
abbrev dktX0_has_0 : List UInt8 := dkwX0_has_0 ++ []
theorem dksX0_has_0 : cX0_has.data.toList.drop 0 = dktX0_has_0 := by decide +kernel
theorem dX0_has_0 : decode cX0_has 0 = .ok (.iload_n 0, 1) := dk_26 (dk_at dksX0_has_0 0 rfl rfl)
theorem dX0_has_1 : decode cX0_has 1 = .ok (.iload_n 1, 1) := dk_27 (dk_at dksX0_has_0 1 rfl rfl)
theorem dX0_has_2 : decode cX0_has 2 = .ok (.ishr, 1) := dk_122 (dk_at dksX0_has_0 2 rfl rfl)
theorem dX0_has_3 : decode cX0_has 3 = .ok (.iconst 1, 1) := dk_4 (dk_at dksX0_has_0 3 rfl rfl)
theorem dX0_has_4 : decode cX0_has 4 = .ok (.iand, 1) := dk_126 (dk_at dksX0_has_0 4 rfl rfl)
theorem dX0_has_5 : decode cX0_has 5 = .ok (.iconst 1, 1) := dk_4 (dk_at dksX0_has_0 5 rfl rfl)
theorem dX0_has_6 : decode cX0_has 6 = .ok (.if_icmp .ne 7, 3) := dk_160 0 7 (dk_at dksX0_has_0 6 rfl rfl)
theorem dX0_has_9 : decode cX0_has 9 = .ok (.iconst 1, 1) := dk_4 (dk_at dksX0_has_0 9 rfl rfl)
theorem dX0_has_10 : decode cX0_has 10 = .ok (.goto 4, 3) := dk_167 0 4 (dk_at dksX0_has_0 10 rfl rfl)
theorem dX0_has_13 : decode cX0_has 13 = .ok (.iconst 0, 1) := dk_3 (dk_at dksX0_has_0 13 rfl rfl)
theorem dX0_has_14 : decode cX0_has 14 = .ok (.ireturn, 1) := dk_172 (dk_at dksX0_has_0 14 rfl rfl)
abbrev cX0_door : ByteArray := prog_1_method_24_code
def yX0_door : MethodName := ⟨RX0, "door", "(II)I"⟩
def dkwX0_door_4 : List UInt8 := [180, 0, 19, 180, 0, 195, 182, 0, 175, 184, 1, 10, 172, 2, 172]
abbrev dktX0_door_4 : List UInt8 := dkwX0_door_4 ++ []
def dkwX0_door_3 : List UInt8 := [180, 0, 133, 27, 182, 0, 223, 192, 1, 4, 180, 1, 6, 184, 1, 10, 172, 42, 180, 0, 12, 27, 42]
abbrev dktX0_door_3 : List UInt8 := dkwX0_door_3 ++ dktX0_door_4
def dkwX0_door_2 : List UInt8 := [42, 180, 0, 12, 27, 182, 0, 179, 172, 42, 180, 0, 12, 27, 182, 0, 183, 172, 42, 180, 0, 12]
abbrev dktX0_door_2 : List UInt8 := dkwX0_door_2 ++ dktX0_door_3
def dkwX0_door_1 : List UInt8 := [170, 0, 0, 0, 87, 0, 0, 0, 0, 0, 0, 0, 3, 0, 0, 0, 29, 0, 0, 0, 38, 0, 0, 0, 47, 0, 0, 0, 68]
abbrev dktX0_door_1 : List UInt8 := dkwX0_door_1 ++ dktX0_door_2
def dkwX0_door_0 : List UInt8 := [42, 27, 182, 1, 1, 154, 0, 5, 2, 172, 28]
abbrev dktX0_door_0 : List UInt8 := dkwX0_door_0 ++ dktX0_door_1
theorem dksX0_door_0 : cX0_door.data.toList.drop 0 = dktX0_door_0 := by decide +kernel
theorem dksX0_door_1 : cX0_door.data.toList.drop 11 = dktX0_door_1 := dk_seg dksX0_door_0 11 rfl rfl
theorem dksX0_door_2 : cX0_door.data.toList.drop 40 = dktX0_door_2 := dk_seg dksX0_door_1 29 rfl rfl
theorem dksX0_door_3 : cX0_door.data.toList.drop 62 = dktX0_door_3 := dk_seg dksX0_door_2 22 rfl rfl
theorem dksX0_door_4 : cX0_door.data.toList.drop 85 = dktX0_door_4 := dk_seg dksX0_door_3 23 rfl rfl
theorem dX0_door_0 : decode cX0_door 0 = .ok (.aload_n 0, 1) := dk_42 (dk_at dksX0_door_0 0 rfl rfl)
theorem dX0_door_1 : decode cX0_door 1 = .ok (.iload_n 1, 1) := dk_27 (dk_at dksX0_door_0 1 rfl rfl)
theorem dX0_door_2 : decode cX0_door 2 = .ok (.invokevirtual 257, 3) := dk_182 1 1 (dk_at dksX0_door_0 2 rfl rfl)
theorem dX0_door_5 : decode cX0_door 5 = .ok (.ifCond .ne 5, 3) := dk_154 0 5 (dk_at dksX0_door_0 5 rfl rfl)
theorem dX0_door_8 : decode cX0_door 8 = .ok (.iconst (-1), 1) := dk_2 (dk_at dksX0_door_0 8 rfl rfl)
theorem dX0_door_9 : decode cX0_door 9 = .ok (.ireturn, 1) := dk_172 (dk_at dksX0_door_0 9 rfl rfl)
theorem dX0_door_10 : decode cX0_door 10 = .ok (.iload_n 2, 1) := dk_28 (dk_at dksX0_door_0 10 rfl rfl)
theorem dX0_door_11 : decode cX0_door 11 = .ok (.tableswitch 87 0 3 #[29, 38, 47, 68], 29) := by decide +kernel
theorem dX0_door_40 : decode cX0_door 40 = .ok (.aload_n 0, 1) := dk_42 (dk_at dksX0_door_2 0 rfl rfl)
theorem dX0_door_41 : decode cX0_door 41 = .ok (.getfield 12, 3) := dk_180 0 12 (dk_at dksX0_door_2 1 rfl rfl)
theorem dX0_door_44 : decode cX0_door 44 = .ok (.iload_n 1, 1) := dk_27 (dk_at dksX0_door_2 4 rfl rfl)
theorem dX0_door_45 : decode cX0_door 45 = .ok (.invokevirtual 179, 3) := dk_182 0 179 (dk_at dksX0_door_2 5 rfl rfl)
theorem dX0_door_48 : decode cX0_door 48 = .ok (.ireturn, 1) := dk_172 (dk_at dksX0_door_2 8 rfl rfl)
theorem dX0_door_49 : decode cX0_door 49 = .ok (.aload_n 0, 1) := dk_42 (dk_at dksX0_door_2 9 rfl rfl)
theorem dX0_door_50 : decode cX0_door 50 = .ok (.getfield 12, 3) := dk_180 0 12 (dk_at dksX0_door_2 10 rfl rfl)
theorem dX0_door_53 : decode cX0_door 53 = .ok (.iload_n 1, 1) := dk_27 (dk_at dksX0_door_2 13 rfl rfl)
theorem dX0_door_54 : decode cX0_door 54 = .ok (.invokevirtual 183, 3) := dk_182 0 183 (dk_at dksX0_door_2 14 rfl rfl)
theorem dX0_door_57 : decode cX0_door 57 = .ok (.ireturn, 1) := dk_172 (dk_at dksX0_door_2 17 rfl rfl)
theorem dX0_door_58 : decode cX0_door 58 = .ok (.aload_n 0, 1) := dk_42 (dk_at dksX0_door_2 18 rfl rfl)
theorem dX0_door_59 : decode cX0_door 59 = .ok (.getfield 12, 3) := dk_180 0 12 (dk_at dksX0_door_2 19 rfl rfl)
theorem dX0_door_62 : decode cX0_door 62 = .ok (.getfield 133, 3) := dk_180 0 133 (dk_at dksX0_door_3 0 rfl rfl)
theorem dX0_door_65 : decode cX0_door 65 = .ok (.iload_n 1, 1) := dk_27 (dk_at dksX0_door_3 3 rfl rfl)
theorem dX0_door_66 : decode cX0_door 66 = .ok (.invokevirtual 223, 3) := dk_182 0 223 (dk_at dksX0_door_3 4 rfl rfl)
theorem dX0_door_69 : decode cX0_door 69 = .ok (.checkcast 260, 3) := dk_192 1 4 (dk_at dksX0_door_3 7 rfl rfl)
theorem dX0_door_72 : decode cX0_door 72 = .ok (.getfield 262, 3) := dk_180 1 6 (dk_at dksX0_door_3 10 rfl rfl)
theorem dX0_door_75 : decode cX0_door 75 = .ok (.invokestatic 266, 3) := dk_184 1 10 (dk_at dksX0_door_3 13 rfl rfl)
theorem dX0_door_78 : decode cX0_door 78 = .ok (.ireturn, 1) := dk_172 (dk_at dksX0_door_3 16 rfl rfl)
theorem dX0_door_79 : decode cX0_door 79 = .ok (.aload_n 0, 1) := dk_42 (dk_at dksX0_door_3 17 rfl rfl)
theorem dX0_door_80 : decode cX0_door 80 = .ok (.getfield 12, 3) := dk_180 0 12 (dk_at dksX0_door_3 18 rfl rfl)
theorem dX0_door_83 : decode cX0_door 83 = .ok (.iload_n 1, 1) := dk_27 (dk_at dksX0_door_3 21 rfl rfl)
theorem dX0_door_84 : decode cX0_door 84 = .ok (.aload_n 0, 1) := dk_42 (dk_at dksX0_door_3 22 rfl rfl)
theorem dX0_door_85 : decode cX0_door 85 = .ok (.getfield 19, 3) := dk_180 0 19 (dk_at dksX0_door_4 0 rfl rfl)
theorem dX0_door_88 : decode cX0_door 88 = .ok (.getfield 195, 3) := dk_180 0 195 (dk_at dksX0_door_4 3 rfl rfl)
theorem dX0_door_91 : decode cX0_door 91 = .ok (.invokevirtual 175, 3) := dk_182 0 175 (dk_at dksX0_door_4 6 rfl rfl)
theorem dX0_door_94 : decode cX0_door 94 = .ok (.invokestatic 266, 3) := dk_184 1 10 (dk_at dksX0_door_4 9 rfl rfl)
theorem dX0_door_97 : decode cX0_door 97 = .ok (.ireturn, 1) := dk_172 (dk_at dksX0_door_4 12 rfl rfl)
theorem dX0_door_98 : decode cX0_door 98 = .ok (.iconst (-1), 1) := dk_2 (dk_at dksX0_door_4 13 rfl rfl)
theorem dX0_door_99 : decode cX0_door 99 = .ok (.ireturn, 1) := dk_172 (dk_at dksX0_door_4 14 rfl rfl)
abbrev cX0_isDoor : ByteArray := prog_1_method_8_code
def yX0_isDoor : MethodName := ⟨RX0, "isDoor", "(I)Z"⟩
def dkwX0_isDoor_0 : List UInt8 := [27, 133, 9, 42, 180, 0, 12, 180, 0, 133, 182, 0, 136, 4, 100, 133, 184, 0, 129, 172]
abbrev dktX0_isDoor_0 : List UInt8 := dkwX0_isDoor_0 ++ []
theorem dksX0_isDoor_0 : cX0_isDoor.data.toList.drop 0 = dktX0_isDoor_0 := by decide +kernel
theorem dX0_isDoor_0 : decode cX0_isDoor 0 = .ok (.iload_n 1, 1) := dk_27 (dk_at dksX0_isDoor_0 0 rfl rfl)
theorem dX0_isDoor_1 : decode cX0_isDoor 1 = .ok (.i2l, 1) := dk_133 (dk_at dksX0_isDoor_0 1 rfl rfl)
theorem dX0_isDoor_2 : decode cX0_isDoor 2 = .ok (.lconst 0, 1) := dk_9 (dk_at dksX0_isDoor_0 2 rfl rfl)
theorem dX0_isDoor_3 : decode cX0_isDoor 3 = .ok (.aload_n 0, 1) := dk_42 (dk_at dksX0_isDoor_0 3 rfl rfl)
theorem dX0_isDoor_4 : decode cX0_isDoor 4 = .ok (.getfield 12, 3) := dk_180 0 12 (dk_at dksX0_isDoor_0 4 rfl rfl)
theorem dX0_isDoor_7 : decode cX0_isDoor 7 = .ok (.getfield 133, 3) := dk_180 0 133 (dk_at dksX0_isDoor_0 7 rfl rfl)
theorem dX0_isDoor_10 : decode cX0_isDoor 10 = .ok (.invokevirtual 136, 3) := dk_182 0 136 (dk_at dksX0_isDoor_0 10 rfl rfl)
theorem dX0_isDoor_13 : decode cX0_isDoor 13 = .ok (.iconst 1, 1) := dk_4 (dk_at dksX0_isDoor_0 13 rfl rfl)
theorem dX0_isDoor_14 : decode cX0_isDoor 14 = .ok (.isub, 1) := dk_100 (dk_at dksX0_isDoor_0 14 rfl rfl)
theorem dX0_isDoor_15 : decode cX0_isDoor 15 = .ok (.i2l, 1) := dk_133 (dk_at dksX0_isDoor_0 15 rfl rfl)
theorem dX0_isDoor_16 : decode cX0_isDoor 16 = .ok (.invokestatic 129, 3) := dk_184 0 129 (dk_at dksX0_isDoor_0 16 rfl rfl)
theorem dX0_isDoor_19 : decode cX0_isDoor 19 = .ok (.ireturn, 1) := dk_172 (dk_at dksX0_isDoor_0 19 rfl rfl)
abbrev cX0_bit : ByteArray := prog_1_method_3_code
def yX0_bit : MethodName := ⟨RX0, "bit", "(Z)I"⟩
def dkwX0_bit_0 : List UInt8 := [26, 153, 0, 7, 4, 167, 0, 4, 3, 172]
abbrev dktX0_bit_0 : List UInt8 := dkwX0_bit_0 ++ []
theorem dksX0_bit_0 : cX0_bit.data.toList.drop 0 = dktX0_bit_0 := by decide +kernel
theorem dX0_bit_0 : decode cX0_bit 0 = .ok (.iload_n 0, 1) := dk_26 (dk_at dksX0_bit_0 0 rfl rfl)
theorem dX0_bit_1 : decode cX0_bit 1 = .ok (.ifCond .eq 7, 3) := dk_153 0 7 (dk_at dksX0_bit_0 1 rfl rfl)
theorem dX0_bit_4 : decode cX0_bit 4 = .ok (.iconst 1, 1) := dk_4 (dk_at dksX0_bit_0 4 rfl rfl)
theorem dX0_bit_5 : decode cX0_bit 5 = .ok (.goto 4, 3) := dk_167 0 4 (dk_at dksX0_bit_0 5 rfl rfl)
theorem dX0_bit_8 : decode cX0_bit 8 = .ok (.iconst 0, 1) := dk_3 (dk_at dksX0_bit_0 8 rfl rfl)
theorem dX0_bit_9 : decode cX0_bit 9 = .ok (.ireturn, 1) := dk_172 (dk_at dksX0_bit_0 9 rfl rfl)
abbrev cX0_undo : ByteArray := prog_1_method_33_code
def yX0_undo : MethodName := ⟨RX0, "undo", "()I"⟩
def dkwX0_undo_2 : List UInt8 := [180, 1, 50, 50, 182, 1, 53, 42, 180, 0, 167, 172]
abbrev dktX0_undo_2 : List UInt8 := dkwX0_undo_2 ++ []
def dkwX0_undo_1 : List UInt8 := [181, 1, 50, 42, 89, 180, 0, 167, 4, 100, 181, 0, 167, 42, 180, 0, 19, 42, 180, 0, 87, 42]
abbrev dktX0_undo_1 : List UInt8 := dkwX0_undo_1 ++ dktX0_undo_2
def dkwX0_undo_0 : List UInt8 := [42, 180, 0, 167, 154, 0, 5, 2, 172, 42, 42, 180, 1, 50, 16, 20, 96, 4, 100, 16, 20, 112]
abbrev dktX0_undo_0 : List UInt8 := dkwX0_undo_0 ++ dktX0_undo_1
theorem dksX0_undo_0 : cX0_undo.data.toList.drop 0 = dktX0_undo_0 := by decide +kernel
theorem dksX0_undo_1 : cX0_undo.data.toList.drop 22 = dktX0_undo_1 := dk_seg dksX0_undo_0 22 rfl rfl
theorem dksX0_undo_2 : cX0_undo.data.toList.drop 44 = dktX0_undo_2 := dk_seg dksX0_undo_1 22 rfl rfl
theorem dX0_undo_0 : decode cX0_undo 0 = .ok (.aload_n 0, 1) := dk_42 (dk_at dksX0_undo_0 0 rfl rfl)
theorem dX0_undo_1 : decode cX0_undo 1 = .ok (.getfield 167, 3) := dk_180 0 167 (dk_at dksX0_undo_0 1 rfl rfl)
theorem dX0_undo_4 : decode cX0_undo 4 = .ok (.ifCond .ne 5, 3) := dk_154 0 5 (dk_at dksX0_undo_0 4 rfl rfl)
theorem dX0_undo_7 : decode cX0_undo 7 = .ok (.iconst (-1), 1) := dk_2 (dk_at dksX0_undo_0 7 rfl rfl)
theorem dX0_undo_8 : decode cX0_undo 8 = .ok (.ireturn, 1) := dk_172 (dk_at dksX0_undo_0 8 rfl rfl)
theorem dX0_undo_9 : decode cX0_undo 9 = .ok (.aload_n 0, 1) := dk_42 (dk_at dksX0_undo_0 9 rfl rfl)
theorem dX0_undo_10 : decode cX0_undo 10 = .ok (.aload_n 0, 1) := dk_42 (dk_at dksX0_undo_0 10 rfl rfl)
theorem dX0_undo_11 : decode cX0_undo 11 = .ok (.getfield 306, 3) := dk_180 1 50 (dk_at dksX0_undo_0 11 rfl rfl)
theorem dX0_undo_14 : decode cX0_undo 14 = .ok (.bipush 20, 2) := dk_16 20 (dk_at dksX0_undo_0 14 rfl rfl)
theorem dX0_undo_16 : decode cX0_undo 16 = .ok (.iadd, 1) := dk_96 (dk_at dksX0_undo_0 16 rfl rfl)
theorem dX0_undo_17 : decode cX0_undo 17 = .ok (.iconst 1, 1) := dk_4 (dk_at dksX0_undo_0 17 rfl rfl)
theorem dX0_undo_18 : decode cX0_undo 18 = .ok (.isub, 1) := dk_100 (dk_at dksX0_undo_0 18 rfl rfl)
theorem dX0_undo_19 : decode cX0_undo 19 = .ok (.bipush 20, 2) := dk_16 20 (dk_at dksX0_undo_0 19 rfl rfl)
theorem dX0_undo_21 : decode cX0_undo 21 = .ok (.irem, 1) := dk_112 (dk_at dksX0_undo_0 21 rfl rfl)
theorem dX0_undo_22 : decode cX0_undo 22 = .ok (.putfield 306, 3) := dk_181 1 50 (dk_at dksX0_undo_1 0 rfl rfl)
theorem dX0_undo_25 : decode cX0_undo 25 = .ok (.aload_n 0, 1) := dk_42 (dk_at dksX0_undo_1 3 rfl rfl)
theorem dX0_undo_26 : decode cX0_undo 26 = .ok (.dup, 1) := dk_89 (dk_at dksX0_undo_1 4 rfl rfl)
theorem dX0_undo_27 : decode cX0_undo 27 = .ok (.getfield 167, 3) := dk_180 0 167 (dk_at dksX0_undo_1 5 rfl rfl)
theorem dX0_undo_30 : decode cX0_undo 30 = .ok (.iconst 1, 1) := dk_4 (dk_at dksX0_undo_1 8 rfl rfl)
theorem dX0_undo_31 : decode cX0_undo 31 = .ok (.isub, 1) := dk_100 (dk_at dksX0_undo_1 9 rfl rfl)
theorem dX0_undo_32 : decode cX0_undo 32 = .ok (.putfield 167, 3) := dk_181 0 167 (dk_at dksX0_undo_1 10 rfl rfl)
theorem dX0_undo_35 : decode cX0_undo 35 = .ok (.aload_n 0, 1) := dk_42 (dk_at dksX0_undo_1 13 rfl rfl)
theorem dX0_undo_36 : decode cX0_undo 36 = .ok (.getfield 19, 3) := dk_180 0 19 (dk_at dksX0_undo_1 14 rfl rfl)
theorem dX0_undo_39 : decode cX0_undo 39 = .ok (.aload_n 0, 1) := dk_42 (dk_at dksX0_undo_1 17 rfl rfl)
theorem dX0_undo_40 : decode cX0_undo 40 = .ok (.getfield 87, 3) := dk_180 0 87 (dk_at dksX0_undo_1 18 rfl rfl)
theorem dX0_undo_43 : decode cX0_undo 43 = .ok (.aload_n 0, 1) := dk_42 (dk_at dksX0_undo_1 21 rfl rfl)
theorem dX0_undo_44 : decode cX0_undo 44 = .ok (.getfield 306, 3) := dk_180 1 50 (dk_at dksX0_undo_2 0 rfl rfl)
theorem dX0_undo_47 : decode cX0_undo 47 = .ok (.aaload, 1) := dk_50 (dk_at dksX0_undo_2 3 rfl rfl)
theorem dX0_undo_48 : decode cX0_undo 48 = .ok (.invokevirtual 309, 3) := dk_182 1 53 (dk_at dksX0_undo_2 4 rfl rfl)
theorem dX0_undo_51 : decode cX0_undo 51 = .ok (.aload_n 0, 1) := dk_42 (dk_at dksX0_undo_2 7 rfl rfl)
theorem dX0_undo_52 : decode cX0_undo 52 = .ok (.getfield 167, 3) := dk_180 0 167 (dk_at dksX0_undo_2 8 rfl rfl)
theorem dX0_undo_55 : decode cX0_undo 55 = .ok (.ireturn, 1) := dk_172 (dk_at dksX0_undo_2 11 rfl rfl)
abbrev cX0_moment : ByteArray := prog_1_method_34_code
def yX0_moment : MethodName := ⟨RX0, "moment", "()I"⟩
def dkwX0_moment_1 : List UInt8 := [182, 1, 56, 42, 42, 180, 0, 19, 182, 1, 59, 172]
abbrev dktX0_moment_1 : List UInt8 := dkwX0_moment_1 ++ []
def dkwX0_moment_0 : List UInt8 := [42, 182, 0, 139, 153, 0, 16, 42, 180, 0, 19, 180, 0, 195, 17, 3, 231, 160, 0, 5, 2, 172, 42]
abbrev dktX0_moment_0 : List UInt8 := dkwX0_moment_0 ++ dktX0_moment_1
theorem dksX0_moment_0 : cX0_moment.data.toList.drop 0 = dktX0_moment_0 := by decide +kernel
theorem dksX0_moment_1 : cX0_moment.data.toList.drop 23 = dktX0_moment_1 := dk_seg dksX0_moment_0 23 rfl rfl
theorem dX0_moment_0 : decode cX0_moment 0 = .ok (.aload_n 0, 1) := dk_42 (dk_at dksX0_moment_0 0 rfl rfl)
theorem dX0_moment_1 : decode cX0_moment 1 = .ok (.invokevirtual 139, 3) := dk_182 0 139 (dk_at dksX0_moment_0 1 rfl rfl)
theorem dX0_moment_4 : decode cX0_moment 4 = .ok (.ifCond .eq 16, 3) := dk_153 0 16 (dk_at dksX0_moment_0 4 rfl rfl)
theorem dX0_moment_7 : decode cX0_moment 7 = .ok (.aload_n 0, 1) := dk_42 (dk_at dksX0_moment_0 7 rfl rfl)
theorem dX0_moment_8 : decode cX0_moment 8 = .ok (.getfield 19, 3) := dk_180 0 19 (dk_at dksX0_moment_0 8 rfl rfl)
theorem dX0_moment_11 : decode cX0_moment 11 = .ok (.getfield 195, 3) := dk_180 0 195 (dk_at dksX0_moment_0 11 rfl rfl)
theorem dX0_moment_14 : decode cX0_moment 14 = .ok (.sipush 999, 3) := dk_17 3 231 (dk_at dksX0_moment_0 14 rfl rfl)
theorem dX0_moment_17 : decode cX0_moment 17 = .ok (.if_icmp .ne 5, 3) := dk_160 0 5 (dk_at dksX0_moment_0 17 rfl rfl)
theorem dX0_moment_20 : decode cX0_moment 20 = .ok (.iconst (-1), 1) := dk_2 (dk_at dksX0_moment_0 20 rfl rfl)
theorem dX0_moment_21 : decode cX0_moment 21 = .ok (.ireturn, 1) := dk_172 (dk_at dksX0_moment_0 21 rfl rfl)
theorem dX0_moment_22 : decode cX0_moment 22 = .ok (.aload_n 0, 1) := dk_42 (dk_at dksX0_moment_0 22 rfl rfl)
theorem dX0_moment_23 : decode cX0_moment 23 = .ok (.invokevirtual 312, 3) := dk_182 1 56 (dk_at dksX0_moment_1 0 rfl rfl)
theorem dX0_moment_26 : decode cX0_moment 26 = .ok (.aload_n 0, 1) := dk_42 (dk_at dksX0_moment_1 3 rfl rfl)
theorem dX0_moment_27 : decode cX0_moment 27 = .ok (.aload_n 0, 1) := dk_42 (dk_at dksX0_moment_1 4 rfl rfl)
theorem dX0_moment_28 : decode cX0_moment 28 = .ok (.getfield 19, 3) := dk_180 0 19 (dk_at dksX0_moment_1 5 rfl rfl)
theorem dX0_moment_31 : decode cX0_moment 31 = .ok (.invokevirtual 315, 3) := dk_182 1 59 (dk_at dksX0_moment_1 8 rfl rfl)
theorem dX0_moment_34 : decode cX0_moment 34 = .ok (.ireturn, 1) := dk_172 (dk_at dksX0_moment_1 11 rfl rfl)
abbrev cX0_isCastle : ByteArray := prog_1_method_5_code
def yX0_isCastle : MethodName := ⟨RX0, "isCastle", "()Z"⟩
def dkwX0_isCastle_0 : List UInt8 := [42, 180, 0, 12, 180, 0, 123, 158, 0, 7, 4, 167, 0, 4, 3, 172]
abbrev dktX0_isCastle_0 : List UInt8 := dkwX0_isCastle_0 ++ []
theorem dksX0_isCastle_0 : cX0_isCastle.data.toList.drop 0 = dktX0_isCastle_0 := by decide +kernel
theorem dX0_isCastle_0 : decode cX0_isCastle 0 = .ok (.aload_n 0, 1) := dk_42 (dk_at dksX0_isCastle_0 0 rfl rfl)
theorem dX0_isCastle_1 : decode cX0_isCastle 1 = .ok (.getfield 12, 3) := dk_180 0 12 (dk_at dksX0_isCastle_0 1 rfl rfl)
theorem dX0_isCastle_4 : decode cX0_isCastle 4 = .ok (.getfield 123, 3) := dk_180 0 123 (dk_at dksX0_isCastle_0 4 rfl rfl)
theorem dX0_isCastle_7 : decode cX0_isCastle 7 = .ok (.ifCond .le 7, 3) := dk_158 0 7 (dk_at dksX0_isCastle_0 7 rfl rfl)
theorem dX0_isCastle_10 : decode cX0_isCastle 10 = .ok (.iconst 1, 1) := dk_4 (dk_at dksX0_isCastle_0 10 rfl rfl)
theorem dX0_isCastle_11 : decode cX0_isCastle 11 = .ok (.goto 4, 3) := dk_167 0 4 (dk_at dksX0_isCastle_0 11 rfl rfl)
theorem dX0_isCastle_14 : decode cX0_isCastle 14 = .ok (.iconst 0, 1) := dk_3 (dk_at dksX0_isCastle_0 14 rfl rfl)
theorem dX0_isCastle_15 : decode cX0_isCastle 15 = .ok (.ireturn, 1) := dk_172 (dk_at dksX0_isCastle_0 15 rfl rfl)
abbrev cX0_keeps : ByteArray := prog_1_method_32_code
def yX0_keeps : MethodName := ⟨RX0, "keeps", "()V"⟩
def dkwX0_keeps_1 : List UInt8 := [16, 20, 112, 181, 1, 50, 42, 16, 20, 42, 180, 0, 167, 4, 96, 184, 0, 186, 181, 0, 167, 177]
abbrev dktX0_keeps_1 : List UInt8 := dkwX0_keeps_1 ++ []
def dkwX0_keeps_0 : List UInt8 := [42, 180, 0, 87, 42, 180, 1, 50, 50, 42, 180, 0, 19, 182, 1, 53, 42, 42, 180, 1, 50, 4, 96]
abbrev dktX0_keeps_0 : List UInt8 := dkwX0_keeps_0 ++ dktX0_keeps_1
theorem dksX0_keeps_0 : cX0_keeps.data.toList.drop 0 = dktX0_keeps_0 := by decide +kernel
theorem dksX0_keeps_1 : cX0_keeps.data.toList.drop 23 = dktX0_keeps_1 := dk_seg dksX0_keeps_0 23 rfl rfl
theorem dX0_keeps_0 : decode cX0_keeps 0 = .ok (.aload_n 0, 1) := dk_42 (dk_at dksX0_keeps_0 0 rfl rfl)
theorem dX0_keeps_1 : decode cX0_keeps 1 = .ok (.getfield 87, 3) := dk_180 0 87 (dk_at dksX0_keeps_0 1 rfl rfl)
theorem dX0_keeps_4 : decode cX0_keeps 4 = .ok (.aload_n 0, 1) := dk_42 (dk_at dksX0_keeps_0 4 rfl rfl)
theorem dX0_keeps_5 : decode cX0_keeps 5 = .ok (.getfield 306, 3) := dk_180 1 50 (dk_at dksX0_keeps_0 5 rfl rfl)
theorem dX0_keeps_8 : decode cX0_keeps 8 = .ok (.aaload, 1) := dk_50 (dk_at dksX0_keeps_0 8 rfl rfl)
theorem dX0_keeps_9 : decode cX0_keeps 9 = .ok (.aload_n 0, 1) := dk_42 (dk_at dksX0_keeps_0 9 rfl rfl)
theorem dX0_keeps_10 : decode cX0_keeps 10 = .ok (.getfield 19, 3) := dk_180 0 19 (dk_at dksX0_keeps_0 10 rfl rfl)
theorem dX0_keeps_13 : decode cX0_keeps 13 = .ok (.invokevirtual 309, 3) := dk_182 1 53 (dk_at dksX0_keeps_0 13 rfl rfl)
theorem dX0_keeps_16 : decode cX0_keeps 16 = .ok (.aload_n 0, 1) := dk_42 (dk_at dksX0_keeps_0 16 rfl rfl)
theorem dX0_keeps_17 : decode cX0_keeps 17 = .ok (.aload_n 0, 1) := dk_42 (dk_at dksX0_keeps_0 17 rfl rfl)
theorem dX0_keeps_18 : decode cX0_keeps 18 = .ok (.getfield 306, 3) := dk_180 1 50 (dk_at dksX0_keeps_0 18 rfl rfl)
theorem dX0_keeps_21 : decode cX0_keeps 21 = .ok (.iconst 1, 1) := dk_4 (dk_at dksX0_keeps_0 21 rfl rfl)
theorem dX0_keeps_22 : decode cX0_keeps 22 = .ok (.iadd, 1) := dk_96 (dk_at dksX0_keeps_0 22 rfl rfl)
theorem dX0_keeps_23 : decode cX0_keeps 23 = .ok (.bipush 20, 2) := dk_16 20 (dk_at dksX0_keeps_1 0 rfl rfl)
theorem dX0_keeps_25 : decode cX0_keeps 25 = .ok (.irem, 1) := dk_112 (dk_at dksX0_keeps_1 2 rfl rfl)
theorem dX0_keeps_26 : decode cX0_keeps 26 = .ok (.putfield 306, 3) := dk_181 1 50 (dk_at dksX0_keeps_1 3 rfl rfl)
theorem dX0_keeps_29 : decode cX0_keeps 29 = .ok (.aload_n 0, 1) := dk_42 (dk_at dksX0_keeps_1 6 rfl rfl)
theorem dX0_keeps_30 : decode cX0_keeps 30 = .ok (.bipush 20, 2) := dk_16 20 (dk_at dksX0_keeps_1 7 rfl rfl)
theorem dX0_keeps_32 : decode cX0_keeps 32 = .ok (.aload_n 0, 1) := dk_42 (dk_at dksX0_keeps_1 9 rfl rfl)
theorem dX0_keeps_33 : decode cX0_keeps 33 = .ok (.getfield 167, 3) := dk_180 0 167 (dk_at dksX0_keeps_1 10 rfl rfl)
theorem dX0_keeps_36 : decode cX0_keeps 36 = .ok (.iconst 1, 1) := dk_4 (dk_at dksX0_keeps_1 13 rfl rfl)
theorem dX0_keeps_37 : decode cX0_keeps 37 = .ok (.iadd, 1) := dk_96 (dk_at dksX0_keeps_1 14 rfl rfl)
theorem dX0_keeps_38 : decode cX0_keeps 38 = .ok (.invokestatic 186, 3) := dk_184 0 186 (dk_at dksX0_keeps_1 15 rfl rfl)
theorem dX0_keeps_41 : decode cX0_keeps 41 = .ok (.putfield 167, 3) := dk_181 0 167 (dk_at dksX0_keeps_1 18 rfl rfl)
theorem dX0_keeps_44 : decode cX0_keeps 44 = .ok (.return_, 1) := dk_177 (dk_at dksX0_keeps_1 21 rfl rfl)
abbrev cX0_goesOn : ByteArray := prog_1_method_30_code
def yX0_goesOn : MethodName := ⟨RX0, "goesOn", "(LOutwardDoors$State;)I"⟩
def dkwX0_goesOn_3 : List UInt8 := [182, 1, 47, 96, 62, 132, 4, 1, 167, 255, 227, 43, 89, 180, 0, 195, 4, 96, 181, 0, 195, 29, 172]
abbrev dktX0_goesOn_3 : List UInt8 := dkwX0_goesOn_3 ++ []
def dkwX0_goesOn_2 : List UInt8 := [54, 4, 21, 4, 42, 180, 0, 12, 180, 0, 133, 182, 0, 136, 162, 0, 20, 29, 42, 43, 21, 4, 28]
abbrev dktX0_goesOn_2 : List UInt8 := dkwX0_goesOn_2 ++ dktX0_goesOn_3
def dkwX0_goesOn_1 : List UInt8 := [182, 1, 44, 153, 0, 9, 4, 29, 120, 167, 0, 4, 3, 128, 61, 132, 3, 1, 167, 255, 223, 3, 62, 3]
abbrev dktX0_goesOn_1 : List UInt8 := dkwX0_goesOn_1 ++ dktX0_goesOn_2
def dkwX0_goesOn_0 : List UInt8 := [42, 43, 182, 1, 40, 3, 61, 3, 62, 29, 42, 180, 0, 12, 182, 0, 125, 162, 0, 28, 28, 42, 43, 29]
abbrev dktX0_goesOn_0 : List UInt8 := dkwX0_goesOn_0 ++ dktX0_goesOn_1
theorem dksX0_goesOn_0 : cX0_goesOn.data.toList.drop 0 = dktX0_goesOn_0 := by decide +kernel
theorem dksX0_goesOn_1 : cX0_goesOn.data.toList.drop 24 = dktX0_goesOn_1 := dk_seg dksX0_goesOn_0 24 rfl rfl
theorem dksX0_goesOn_2 : cX0_goesOn.data.toList.drop 48 = dktX0_goesOn_2 := dk_seg dksX0_goesOn_1 24 rfl rfl
theorem dksX0_goesOn_3 : cX0_goesOn.data.toList.drop 71 = dktX0_goesOn_3 := dk_seg dksX0_goesOn_2 23 rfl rfl
theorem dX0_goesOn_0 : decode cX0_goesOn 0 = .ok (.aload_n 0, 1) := dk_42 (dk_at dksX0_goesOn_0 0 rfl rfl)
theorem dX0_goesOn_1 : decode cX0_goesOn 1 = .ok (.aload_n 1, 1) := dk_43 (dk_at dksX0_goesOn_0 1 rfl rfl)
theorem dX0_goesOn_2 : decode cX0_goesOn 2 = .ok (.invokevirtual 296, 3) := dk_182 1 40 (dk_at dksX0_goesOn_0 2 rfl rfl)
theorem dX0_goesOn_5 : decode cX0_goesOn 5 = .ok (.iconst 0, 1) := dk_3 (dk_at dksX0_goesOn_0 5 rfl rfl)
theorem dX0_goesOn_6 : decode cX0_goesOn 6 = .ok (.istore_n 2, 1) := dk_61 (dk_at dksX0_goesOn_0 6 rfl rfl)
theorem dX0_goesOn_7 : decode cX0_goesOn 7 = .ok (.iconst 0, 1) := dk_3 (dk_at dksX0_goesOn_0 7 rfl rfl)
theorem dX0_goesOn_8 : decode cX0_goesOn 8 = .ok (.istore_n 3, 1) := dk_62 (dk_at dksX0_goesOn_0 8 rfl rfl)
theorem dX0_goesOn_9 : decode cX0_goesOn 9 = .ok (.iload_n 3, 1) := dk_29 (dk_at dksX0_goesOn_0 9 rfl rfl)
theorem dX0_goesOn_10 : decode cX0_goesOn 10 = .ok (.aload_n 0, 1) := dk_42 (dk_at dksX0_goesOn_0 10 rfl rfl)
theorem dX0_goesOn_11 : decode cX0_goesOn 11 = .ok (.getfield 12, 3) := dk_180 0 12 (dk_at dksX0_goesOn_0 11 rfl rfl)
theorem dX0_goesOn_14 : decode cX0_goesOn 14 = .ok (.invokevirtual 125, 3) := dk_182 0 125 (dk_at dksX0_goesOn_0 14 rfl rfl)
theorem dX0_goesOn_17 : decode cX0_goesOn 17 = .ok (.if_icmp .ge 28, 3) := dk_162 0 28 (dk_at dksX0_goesOn_0 17 rfl rfl)
theorem dX0_goesOn_20 : decode cX0_goesOn 20 = .ok (.iload_n 2, 1) := dk_28 (dk_at dksX0_goesOn_0 20 rfl rfl)
theorem dX0_goesOn_21 : decode cX0_goesOn 21 = .ok (.aload_n 0, 1) := dk_42 (dk_at dksX0_goesOn_0 21 rfl rfl)
theorem dX0_goesOn_22 : decode cX0_goesOn 22 = .ok (.aload_n 1, 1) := dk_43 (dk_at dksX0_goesOn_0 22 rfl rfl)
theorem dX0_goesOn_23 : decode cX0_goesOn 23 = .ok (.iload_n 3, 1) := dk_29 (dk_at dksX0_goesOn_0 23 rfl rfl)
theorem dX0_goesOn_24 : decode cX0_goesOn 24 = .ok (.invokevirtual 300, 3) := dk_182 1 44 (dk_at dksX0_goesOn_1 0 rfl rfl)
theorem dX0_goesOn_27 : decode cX0_goesOn 27 = .ok (.ifCond .eq 9, 3) := dk_153 0 9 (dk_at dksX0_goesOn_1 3 rfl rfl)
theorem dX0_goesOn_30 : decode cX0_goesOn 30 = .ok (.iconst 1, 1) := dk_4 (dk_at dksX0_goesOn_1 6 rfl rfl)
theorem dX0_goesOn_31 : decode cX0_goesOn 31 = .ok (.iload_n 3, 1) := dk_29 (dk_at dksX0_goesOn_1 7 rfl rfl)
theorem dX0_goesOn_32 : decode cX0_goesOn 32 = .ok (.ishl, 1) := dk_120 (dk_at dksX0_goesOn_1 8 rfl rfl)
theorem dX0_goesOn_33 : decode cX0_goesOn 33 = .ok (.goto 4, 3) := dk_167 0 4 (dk_at dksX0_goesOn_1 9 rfl rfl)
theorem dX0_goesOn_36 : decode cX0_goesOn 36 = .ok (.iconst 0, 1) := dk_3 (dk_at dksX0_goesOn_1 12 rfl rfl)
theorem dX0_goesOn_37 : decode cX0_goesOn 37 = .ok (.ior, 1) := dk_128 (dk_at dksX0_goesOn_1 13 rfl rfl)
theorem dX0_goesOn_38 : decode cX0_goesOn 38 = .ok (.istore_n 2, 1) := dk_61 (dk_at dksX0_goesOn_1 14 rfl rfl)
theorem dX0_goesOn_39 : decode cX0_goesOn 39 = .ok (.iinc 3 1, 3) := dk_132 3 1 (dk_at dksX0_goesOn_1 15 rfl rfl)
theorem dX0_goesOn_42 : decode cX0_goesOn 42 = .ok (.goto (-33), 3) := dk_167 255 223 (dk_at dksX0_goesOn_1 18 rfl rfl)
theorem dX0_goesOn_45 : decode cX0_goesOn 45 = .ok (.iconst 0, 1) := dk_3 (dk_at dksX0_goesOn_1 21 rfl rfl)
theorem dX0_goesOn_46 : decode cX0_goesOn 46 = .ok (.istore_n 3, 1) := dk_62 (dk_at dksX0_goesOn_1 22 rfl rfl)
theorem dX0_goesOn_47 : decode cX0_goesOn 47 = .ok (.iconst 0, 1) := dk_3 (dk_at dksX0_goesOn_1 23 rfl rfl)
theorem dX0_goesOn_48 : decode cX0_goesOn 48 = .ok (.istore 4, 2) := dk_54 4 (dk_at dksX0_goesOn_2 0 rfl rfl)
theorem dX0_goesOn_50 : decode cX0_goesOn 50 = .ok (.iload 4, 2) := dk_21 4 (dk_at dksX0_goesOn_2 2 rfl rfl)
theorem dX0_goesOn_52 : decode cX0_goesOn 52 = .ok (.aload_n 0, 1) := dk_42 (dk_at dksX0_goesOn_2 4 rfl rfl)
theorem dX0_goesOn_53 : decode cX0_goesOn 53 = .ok (.getfield 12, 3) := dk_180 0 12 (dk_at dksX0_goesOn_2 5 rfl rfl)
theorem dX0_goesOn_56 : decode cX0_goesOn 56 = .ok (.getfield 133, 3) := dk_180 0 133 (dk_at dksX0_goesOn_2 8 rfl rfl)
theorem dX0_goesOn_59 : decode cX0_goesOn 59 = .ok (.invokevirtual 136, 3) := dk_182 0 136 (dk_at dksX0_goesOn_2 11 rfl rfl)
theorem dX0_goesOn_62 : decode cX0_goesOn 62 = .ok (.if_icmp .ge 20, 3) := dk_162 0 20 (dk_at dksX0_goesOn_2 14 rfl rfl)
theorem dX0_goesOn_65 : decode cX0_goesOn 65 = .ok (.iload_n 3, 1) := dk_29 (dk_at dksX0_goesOn_2 17 rfl rfl)
theorem dX0_goesOn_66 : decode cX0_goesOn 66 = .ok (.aload_n 0, 1) := dk_42 (dk_at dksX0_goesOn_2 18 rfl rfl)
theorem dX0_goesOn_67 : decode cX0_goesOn 67 = .ok (.aload_n 1, 1) := dk_43 (dk_at dksX0_goesOn_2 19 rfl rfl)
theorem dX0_goesOn_68 : decode cX0_goesOn 68 = .ok (.iload 4, 2) := dk_21 4 (dk_at dksX0_goesOn_2 20 rfl rfl)
theorem dX0_goesOn_70 : decode cX0_goesOn 70 = .ok (.iload_n 2, 1) := dk_28 (dk_at dksX0_goesOn_2 22 rfl rfl)
theorem dX0_goesOn_71 : decode cX0_goesOn 71 = .ok (.invokevirtual 303, 3) := dk_182 1 47 (dk_at dksX0_goesOn_3 0 rfl rfl)
theorem dX0_goesOn_74 : decode cX0_goesOn 74 = .ok (.iadd, 1) := dk_96 (dk_at dksX0_goesOn_3 3 rfl rfl)
theorem dX0_goesOn_75 : decode cX0_goesOn 75 = .ok (.istore_n 3, 1) := dk_62 (dk_at dksX0_goesOn_3 4 rfl rfl)
theorem dX0_goesOn_76 : decode cX0_goesOn 76 = .ok (.iinc 4 1, 3) := dk_132 4 1 (dk_at dksX0_goesOn_3 5 rfl rfl)
theorem dX0_goesOn_79 : decode cX0_goesOn 79 = .ok (.goto (-29), 3) := dk_167 255 227 (dk_at dksX0_goesOn_3 8 rfl rfl)
theorem dX0_goesOn_82 : decode cX0_goesOn 82 = .ok (.aload_n 1, 1) := dk_43 (dk_at dksX0_goesOn_3 11 rfl rfl)
theorem dX0_goesOn_83 : decode cX0_goesOn 83 = .ok (.dup, 1) := dk_89 (dk_at dksX0_goesOn_3 12 rfl rfl)
theorem dX0_goesOn_84 : decode cX0_goesOn 84 = .ok (.getfield 195, 3) := dk_180 0 195 (dk_at dksX0_goesOn_3 13 rfl rfl)
theorem dX0_goesOn_87 : decode cX0_goesOn 87 = .ok (.iconst 1, 1) := dk_4 (dk_at dksX0_goesOn_3 16 rfl rfl)
theorem dX0_goesOn_88 : decode cX0_goesOn 88 = .ok (.iadd, 1) := dk_96 (dk_at dksX0_goesOn_3 17 rfl rfl)
theorem dX0_goesOn_89 : decode cX0_goesOn 89 = .ok (.putfield 195, 3) := dk_181 0 195 (dk_at dksX0_goesOn_3 18 rfl rfl)
theorem dX0_goesOn_92 : decode cX0_goesOn 92 = .ok (.iload_n 3, 1) := dk_29 (dk_at dksX0_goesOn_3 21 rfl rfl)
theorem dX0_goesOn_93 : decode cX0_goesOn 93 = .ok (.ireturn, 1) := dk_172 (dk_at dksX0_goesOn_3 22 rfl rfl)
abbrev cX0_wills : ByteArray := prog_1_method_27_code
def yX0_wills : MethodName := ⟨RX0, "wills", "(LOutwardDoors$State;)V"⟩
def dkwX0_wills_3 : List UInt8 := [182, 1, 30, 79, 132, 2, 1, 167, 255, 230, 177]
abbrev dktX0_wills_3 : List UInt8 := dkwX0_wills_3 ++ []
def dkwX0_wills_2 : List UInt8 := [167, 255, 212, 3, 61, 28, 42, 180, 0, 12, 182, 0, 125, 162, 0, 21, 42, 180, 0, 74, 28, 42, 43, 28]
abbrev dktX0_wills_2 : List UInt8 := dkwX0_wills_2 ++ dktX0_wills_3
def dkwX0_wills_1 : List UInt8 := [79, 42, 180, 0, 77, 28, 42, 43, 28, 43, 180, 0, 202, 28, 46, 182, 0, 205, 79, 132, 2, 1]
abbrev dktX0_wills_1 : List UInt8 := dkwX0_wills_1 ++ dktX0_wills_2
def dkwX0_wills_0 : List UInt8 := [3, 61, 28, 42, 180, 0, 12, 182, 0, 125, 162, 0, 39, 42, 180, 0, 71, 28, 42, 43, 28, 182, 0, 232]
abbrev dktX0_wills_0 : List UInt8 := dkwX0_wills_0 ++ dktX0_wills_1
theorem dksX0_wills_0 : cX0_wills.data.toList.drop 0 = dktX0_wills_0 := by decide +kernel
theorem dksX0_wills_1 : cX0_wills.data.toList.drop 24 = dktX0_wills_1 := dk_seg dksX0_wills_0 24 rfl rfl
theorem dksX0_wills_2 : cX0_wills.data.toList.drop 46 = dktX0_wills_2 := dk_seg dksX0_wills_1 22 rfl rfl
theorem dksX0_wills_3 : cX0_wills.data.toList.drop 70 = dktX0_wills_3 := dk_seg dksX0_wills_2 24 rfl rfl
theorem dX0_wills_0 : decode cX0_wills 0 = .ok (.iconst 0, 1) := dk_3 (dk_at dksX0_wills_0 0 rfl rfl)
theorem dX0_wills_1 : decode cX0_wills 1 = .ok (.istore_n 2, 1) := dk_61 (dk_at dksX0_wills_0 1 rfl rfl)
theorem dX0_wills_2 : decode cX0_wills 2 = .ok (.iload_n 2, 1) := dk_28 (dk_at dksX0_wills_0 2 rfl rfl)
theorem dX0_wills_3 : decode cX0_wills 3 = .ok (.aload_n 0, 1) := dk_42 (dk_at dksX0_wills_0 3 rfl rfl)
theorem dX0_wills_4 : decode cX0_wills 4 = .ok (.getfield 12, 3) := dk_180 0 12 (dk_at dksX0_wills_0 4 rfl rfl)
theorem dX0_wills_7 : decode cX0_wills 7 = .ok (.invokevirtual 125, 3) := dk_182 0 125 (dk_at dksX0_wills_0 7 rfl rfl)
theorem dX0_wills_10 : decode cX0_wills 10 = .ok (.if_icmp .ge 39, 3) := dk_162 0 39 (dk_at dksX0_wills_0 10 rfl rfl)
theorem dX0_wills_13 : decode cX0_wills 13 = .ok (.aload_n 0, 1) := dk_42 (dk_at dksX0_wills_0 13 rfl rfl)
theorem dX0_wills_14 : decode cX0_wills 14 = .ok (.getfield 71, 3) := dk_180 0 71 (dk_at dksX0_wills_0 14 rfl rfl)
theorem dX0_wills_17 : decode cX0_wills 17 = .ok (.iload_n 2, 1) := dk_28 (dk_at dksX0_wills_0 17 rfl rfl)
theorem dX0_wills_18 : decode cX0_wills 18 = .ok (.aload_n 0, 1) := dk_42 (dk_at dksX0_wills_0 18 rfl rfl)
theorem dX0_wills_19 : decode cX0_wills 19 = .ok (.aload_n 1, 1) := dk_43 (dk_at dksX0_wills_0 19 rfl rfl)
theorem dX0_wills_20 : decode cX0_wills 20 = .ok (.iload_n 2, 1) := dk_28 (dk_at dksX0_wills_0 20 rfl rfl)
theorem dX0_wills_21 : decode cX0_wills 21 = .ok (.invokevirtual 232, 3) := dk_182 0 232 (dk_at dksX0_wills_0 21 rfl rfl)
theorem dX0_wills_24 : decode cX0_wills 24 = .ok (.iastore, 1) := dk_79 (dk_at dksX0_wills_1 0 rfl rfl)
theorem dX0_wills_25 : decode cX0_wills 25 = .ok (.aload_n 0, 1) := dk_42 (dk_at dksX0_wills_1 1 rfl rfl)
theorem dX0_wills_26 : decode cX0_wills 26 = .ok (.getfield 77, 3) := dk_180 0 77 (dk_at dksX0_wills_1 2 rfl rfl)
theorem dX0_wills_29 : decode cX0_wills 29 = .ok (.iload_n 2, 1) := dk_28 (dk_at dksX0_wills_1 5 rfl rfl)
theorem dX0_wills_30 : decode cX0_wills 30 = .ok (.aload_n 0, 1) := dk_42 (dk_at dksX0_wills_1 6 rfl rfl)
theorem dX0_wills_31 : decode cX0_wills 31 = .ok (.aload_n 1, 1) := dk_43 (dk_at dksX0_wills_1 7 rfl rfl)
theorem dX0_wills_32 : decode cX0_wills 32 = .ok (.iload_n 2, 1) := dk_28 (dk_at dksX0_wills_1 8 rfl rfl)
theorem dX0_wills_33 : decode cX0_wills 33 = .ok (.aload_n 1, 1) := dk_43 (dk_at dksX0_wills_1 9 rfl rfl)
theorem dX0_wills_34 : decode cX0_wills 34 = .ok (.getfield 202, 3) := dk_180 0 202 (dk_at dksX0_wills_1 10 rfl rfl)
theorem dX0_wills_37 : decode cX0_wills 37 = .ok (.iload_n 2, 1) := dk_28 (dk_at dksX0_wills_1 13 rfl rfl)
theorem dX0_wills_38 : decode cX0_wills 38 = .ok (.iaload, 1) := dk_46 (dk_at dksX0_wills_1 14 rfl rfl)
theorem dX0_wills_39 : decode cX0_wills 39 = .ok (.invokevirtual 205, 3) := dk_182 0 205 (dk_at dksX0_wills_1 15 rfl rfl)
theorem dX0_wills_42 : decode cX0_wills 42 = .ok (.iastore, 1) := dk_79 (dk_at dksX0_wills_1 18 rfl rfl)
theorem dX0_wills_43 : decode cX0_wills 43 = .ok (.iinc 2 1, 3) := dk_132 2 1 (dk_at dksX0_wills_1 19 rfl rfl)
theorem dX0_wills_46 : decode cX0_wills 46 = .ok (.goto (-44), 3) := dk_167 255 212 (dk_at dksX0_wills_2 0 rfl rfl)
theorem dX0_wills_49 : decode cX0_wills 49 = .ok (.iconst 0, 1) := dk_3 (dk_at dksX0_wills_2 3 rfl rfl)
theorem dX0_wills_50 : decode cX0_wills 50 = .ok (.istore_n 2, 1) := dk_61 (dk_at dksX0_wills_2 4 rfl rfl)
theorem dX0_wills_51 : decode cX0_wills 51 = .ok (.iload_n 2, 1) := dk_28 (dk_at dksX0_wills_2 5 rfl rfl)
theorem dX0_wills_52 : decode cX0_wills 52 = .ok (.aload_n 0, 1) := dk_42 (dk_at dksX0_wills_2 6 rfl rfl)
theorem dX0_wills_53 : decode cX0_wills 53 = .ok (.getfield 12, 3) := dk_180 0 12 (dk_at dksX0_wills_2 7 rfl rfl)
theorem dX0_wills_56 : decode cX0_wills 56 = .ok (.invokevirtual 125, 3) := dk_182 0 125 (dk_at dksX0_wills_2 10 rfl rfl)
theorem dX0_wills_59 : decode cX0_wills 59 = .ok (.if_icmp .ge 21, 3) := dk_162 0 21 (dk_at dksX0_wills_2 13 rfl rfl)
theorem dX0_wills_62 : decode cX0_wills 62 = .ok (.aload_n 0, 1) := dk_42 (dk_at dksX0_wills_2 16 rfl rfl)
theorem dX0_wills_63 : decode cX0_wills 63 = .ok (.getfield 74, 3) := dk_180 0 74 (dk_at dksX0_wills_2 17 rfl rfl)
theorem dX0_wills_66 : decode cX0_wills 66 = .ok (.iload_n 2, 1) := dk_28 (dk_at dksX0_wills_2 20 rfl rfl)
theorem dX0_wills_67 : decode cX0_wills 67 = .ok (.aload_n 0, 1) := dk_42 (dk_at dksX0_wills_2 21 rfl rfl)
theorem dX0_wills_68 : decode cX0_wills 68 = .ok (.aload_n 1, 1) := dk_43 (dk_at dksX0_wills_2 22 rfl rfl)
theorem dX0_wills_69 : decode cX0_wills 69 = .ok (.iload_n 2, 1) := dk_28 (dk_at dksX0_wills_2 23 rfl rfl)
theorem dX0_wills_70 : decode cX0_wills 70 = .ok (.invokevirtual 286, 3) := dk_182 1 30 (dk_at dksX0_wills_3 0 rfl rfl)
theorem dX0_wills_73 : decode cX0_wills 73 = .ok (.iastore, 1) := dk_79 (dk_at dksX0_wills_3 3 rfl rfl)
theorem dX0_wills_74 : decode cX0_wills 74 = .ok (.iinc 2 1, 3) := dk_132 2 1 (dk_at dksX0_wills_3 4 rfl rfl)
theorem dX0_wills_77 : decode cX0_wills 77 = .ok (.goto (-26), 3) := dk_167 255 230 (dk_at dksX0_wills_3 7 rfl rfl)
theorem dX0_wills_80 : decode cX0_wills 80 = .ok (.return_, 1) := dk_177 (dk_at dksX0_wills_3 10 rfl rfl)
abbrev cX0_willOf : ByteArray := prog_1_method_26_code
def yX0_willOf : MethodName := ⟨RX0, "willOf", "(LOutwardDoors$State;I)I"⟩
def dkwX0_willOf_4 : List UInt8 := [180, 0, 195, 182, 0, 209, 172]
abbrev dktX0_willOf_4 : List UInt8 := dkwX0_willOf_4 ++ []
def dkwX0_willOf_3 : List UInt8 := [160, 0, 7, 2, 167, 0, 26, 42, 180, 0, 12, 43, 180, 0, 202, 28, 46, 42, 180, 0, 71, 28, 46, 43]
abbrev dktX0_willOf_3 : List UInt8 := dkwX0_willOf_3 ++ dktX0_willOf_4
def dkwX0_willOf_2 : List UInt8 := [180, 0, 202, 28, 46, 43, 180, 0, 195, 182, 1, 27, 172, 29, 153, 0, 13, 42, 180, 0, 71, 28, 46, 2]
abbrev dktX0_willOf_2 : List UInt8 := dkwX0_willOf_2 ++ dktX0_willOf_3
def dkwX0_willOf_1 : List UInt8 := [182, 0, 223, 192, 1, 21, 42, 180, 0, 67, 182, 1, 23, 62, 29, 156, 0, 21, 42, 180, 0, 12, 43]
abbrev dktX0_willOf_1 : List UInt8 := dkwX0_willOf_1 ++ dktX0_willOf_2
def dkwX0_willOf_0 : List UInt8 := [4, 62, 42, 180, 0, 35, 2, 159, 0, 31, 42, 43, 28, 182, 1, 17, 42, 180, 0, 31, 42, 180, 0, 35]
abbrev dktX0_willOf_0 : List UInt8 := dkwX0_willOf_0 ++ dktX0_willOf_1
theorem dksX0_willOf_0 : cX0_willOf.data.toList.drop 0 = dktX0_willOf_0 := by decide +kernel
theorem dksX0_willOf_1 : cX0_willOf.data.toList.drop 24 = dktX0_willOf_1 := dk_seg dksX0_willOf_0 24 rfl rfl
theorem dksX0_willOf_2 : cX0_willOf.data.toList.drop 47 = dktX0_willOf_2 := dk_seg dksX0_willOf_1 23 rfl rfl
theorem dksX0_willOf_3 : cX0_willOf.data.toList.drop 71 = dktX0_willOf_3 := dk_seg dksX0_willOf_2 24 rfl rfl
theorem dksX0_willOf_4 : cX0_willOf.data.toList.drop 95 = dktX0_willOf_4 := dk_seg dksX0_willOf_3 24 rfl rfl
theorem dX0_willOf_0 : decode cX0_willOf 0 = .ok (.iconst 1, 1) := dk_4 (dk_at dksX0_willOf_0 0 rfl rfl)
theorem dX0_willOf_1 : decode cX0_willOf 1 = .ok (.istore_n 3, 1) := dk_62 (dk_at dksX0_willOf_0 1 rfl rfl)
theorem dX0_willOf_2 : decode cX0_willOf 2 = .ok (.aload_n 0, 1) := dk_42 (dk_at dksX0_willOf_0 2 rfl rfl)
theorem dX0_willOf_3 : decode cX0_willOf 3 = .ok (.getfield 35, 3) := dk_180 0 35 (dk_at dksX0_willOf_0 3 rfl rfl)
theorem dX0_willOf_6 : decode cX0_willOf 6 = .ok (.iconst (-1), 1) := dk_2 (dk_at dksX0_willOf_0 6 rfl rfl)
theorem dX0_willOf_7 : decode cX0_willOf 7 = .ok (.if_icmp .eq 31, 3) := dk_159 0 31 (dk_at dksX0_willOf_0 7 rfl rfl)
theorem dX0_willOf_10 : decode cX0_willOf 10 = .ok (.aload_n 0, 1) := dk_42 (dk_at dksX0_willOf_0 10 rfl rfl)
theorem dX0_willOf_11 : decode cX0_willOf 11 = .ok (.aload_n 1, 1) := dk_43 (dk_at dksX0_willOf_0 11 rfl rfl)
theorem dX0_willOf_12 : decode cX0_willOf 12 = .ok (.iload_n 2, 1) := dk_28 (dk_at dksX0_willOf_0 12 rfl rfl)
theorem dX0_willOf_13 : decode cX0_willOf 13 = .ok (.invokevirtual 273, 3) := dk_182 1 17 (dk_at dksX0_willOf_0 13 rfl rfl)
theorem dX0_willOf_16 : decode cX0_willOf 16 = .ok (.aload_n 0, 1) := dk_42 (dk_at dksX0_willOf_0 16 rfl rfl)
theorem dX0_willOf_17 : decode cX0_willOf 17 = .ok (.getfield 31, 3) := dk_180 0 31 (dk_at dksX0_willOf_0 17 rfl rfl)
theorem dX0_willOf_20 : decode cX0_willOf 20 = .ok (.aload_n 0, 1) := dk_42 (dk_at dksX0_willOf_0 20 rfl rfl)
theorem dX0_willOf_21 : decode cX0_willOf 21 = .ok (.getfield 35, 3) := dk_180 0 35 (dk_at dksX0_willOf_0 21 rfl rfl)
theorem dX0_willOf_24 : decode cX0_willOf 24 = .ok (.invokevirtual 223, 3) := dk_182 0 223 (dk_at dksX0_willOf_1 0 rfl rfl)
theorem dX0_willOf_27 : decode cX0_willOf 27 = .ok (.checkcast 277, 3) := dk_192 1 21 (dk_at dksX0_willOf_1 3 rfl rfl)
theorem dX0_willOf_30 : decode cX0_willOf 30 = .ok (.aload_n 0, 1) := dk_42 (dk_at dksX0_willOf_1 6 rfl rfl)
theorem dX0_willOf_31 : decode cX0_willOf 31 = .ok (.getfield 67, 3) := dk_180 0 67 (dk_at dksX0_willOf_1 7 rfl rfl)
theorem dX0_willOf_34 : decode cX0_willOf 34 = .ok (.invokevirtual 279, 3) := dk_182 1 23 (dk_at dksX0_willOf_1 10 rfl rfl)
theorem dX0_willOf_37 : decode cX0_willOf 37 = .ok (.istore_n 3, 1) := dk_62 (dk_at dksX0_willOf_1 13 rfl rfl)
theorem dX0_willOf_38 : decode cX0_willOf 38 = .ok (.iload_n 3, 1) := dk_29 (dk_at dksX0_willOf_1 14 rfl rfl)
theorem dX0_willOf_39 : decode cX0_willOf 39 = .ok (.ifCond .ge 21, 3) := dk_156 0 21 (dk_at dksX0_willOf_1 15 rfl rfl)
theorem dX0_willOf_42 : decode cX0_willOf 42 = .ok (.aload_n 0, 1) := dk_42 (dk_at dksX0_willOf_1 18 rfl rfl)
theorem dX0_willOf_43 : decode cX0_willOf 43 = .ok (.getfield 12, 3) := dk_180 0 12 (dk_at dksX0_willOf_1 19 rfl rfl)
theorem dX0_willOf_46 : decode cX0_willOf 46 = .ok (.aload_n 1, 1) := dk_43 (dk_at dksX0_willOf_1 22 rfl rfl)
theorem dX0_willOf_47 : decode cX0_willOf 47 = .ok (.getfield 202, 3) := dk_180 0 202 (dk_at dksX0_willOf_2 0 rfl rfl)
theorem dX0_willOf_50 : decode cX0_willOf 50 = .ok (.iload_n 2, 1) := dk_28 (dk_at dksX0_willOf_2 3 rfl rfl)
theorem dX0_willOf_51 : decode cX0_willOf 51 = .ok (.iaload, 1) := dk_46 (dk_at dksX0_willOf_2 4 rfl rfl)
theorem dX0_willOf_52 : decode cX0_willOf 52 = .ok (.aload_n 1, 1) := dk_43 (dk_at dksX0_willOf_2 5 rfl rfl)
theorem dX0_willOf_53 : decode cX0_willOf 53 = .ok (.getfield 195, 3) := dk_180 0 195 (dk_at dksX0_willOf_2 6 rfl rfl)
theorem dX0_willOf_56 : decode cX0_willOf 56 = .ok (.invokevirtual 283, 3) := dk_182 1 27 (dk_at dksX0_willOf_2 9 rfl rfl)
theorem dX0_willOf_59 : decode cX0_willOf 59 = .ok (.ireturn, 1) := dk_172 (dk_at dksX0_willOf_2 12 rfl rfl)
theorem dX0_willOf_60 : decode cX0_willOf 60 = .ok (.iload_n 3, 1) := dk_29 (dk_at dksX0_willOf_2 13 rfl rfl)
theorem dX0_willOf_61 : decode cX0_willOf 61 = .ok (.ifCond .eq 13, 3) := dk_153 0 13 (dk_at dksX0_willOf_2 14 rfl rfl)
theorem dX0_willOf_64 : decode cX0_willOf 64 = .ok (.aload_n 0, 1) := dk_42 (dk_at dksX0_willOf_2 17 rfl rfl)
theorem dX0_willOf_65 : decode cX0_willOf 65 = .ok (.getfield 71, 3) := dk_180 0 71 (dk_at dksX0_willOf_2 18 rfl rfl)
theorem dX0_willOf_68 : decode cX0_willOf 68 = .ok (.iload_n 2, 1) := dk_28 (dk_at dksX0_willOf_2 21 rfl rfl)
theorem dX0_willOf_69 : decode cX0_willOf 69 = .ok (.iaload, 1) := dk_46 (dk_at dksX0_willOf_2 22 rfl rfl)
theorem dX0_willOf_70 : decode cX0_willOf 70 = .ok (.iconst (-1), 1) := dk_2 (dk_at dksX0_willOf_2 23 rfl rfl)
theorem dX0_willOf_71 : decode cX0_willOf 71 = .ok (.if_icmp .ne 7, 3) := dk_160 0 7 (dk_at dksX0_willOf_3 0 rfl rfl)
theorem dX0_willOf_74 : decode cX0_willOf 74 = .ok (.iconst (-1), 1) := dk_2 (dk_at dksX0_willOf_3 3 rfl rfl)
theorem dX0_willOf_75 : decode cX0_willOf 75 = .ok (.goto 26, 3) := dk_167 0 26 (dk_at dksX0_willOf_3 4 rfl rfl)
theorem dX0_willOf_78 : decode cX0_willOf 78 = .ok (.aload_n 0, 1) := dk_42 (dk_at dksX0_willOf_3 7 rfl rfl)
theorem dX0_willOf_79 : decode cX0_willOf 79 = .ok (.getfield 12, 3) := dk_180 0 12 (dk_at dksX0_willOf_3 8 rfl rfl)
theorem dX0_willOf_82 : decode cX0_willOf 82 = .ok (.aload_n 1, 1) := dk_43 (dk_at dksX0_willOf_3 11 rfl rfl)
theorem dX0_willOf_83 : decode cX0_willOf 83 = .ok (.getfield 202, 3) := dk_180 0 202 (dk_at dksX0_willOf_3 12 rfl rfl)
theorem dX0_willOf_86 : decode cX0_willOf 86 = .ok (.iload_n 2, 1) := dk_28 (dk_at dksX0_willOf_3 15 rfl rfl)
theorem dX0_willOf_87 : decode cX0_willOf 87 = .ok (.iaload, 1) := dk_46 (dk_at dksX0_willOf_3 16 rfl rfl)
theorem dX0_willOf_88 : decode cX0_willOf 88 = .ok (.aload_n 0, 1) := dk_42 (dk_at dksX0_willOf_3 17 rfl rfl)
theorem dX0_willOf_89 : decode cX0_willOf 89 = .ok (.getfield 71, 3) := dk_180 0 71 (dk_at dksX0_willOf_3 18 rfl rfl)
theorem dX0_willOf_92 : decode cX0_willOf 92 = .ok (.iload_n 2, 1) := dk_28 (dk_at dksX0_willOf_3 21 rfl rfl)
theorem dX0_willOf_93 : decode cX0_willOf 93 = .ok (.iaload, 1) := dk_46 (dk_at dksX0_willOf_3 22 rfl rfl)
theorem dX0_willOf_94 : decode cX0_willOf 94 = .ok (.aload_n 1, 1) := dk_43 (dk_at dksX0_willOf_3 23 rfl rfl)
theorem dX0_willOf_95 : decode cX0_willOf 95 = .ok (.getfield 195, 3) := dk_180 0 195 (dk_at dksX0_willOf_4 0 rfl rfl)
theorem dX0_willOf_98 : decode cX0_willOf 98 = .ok (.invokevirtual 209, 3) := dk_182 0 209 (dk_at dksX0_willOf_4 3 rfl rfl)
theorem dX0_willOf_101 : decode cX0_willOf 101 = .ok (.ireturn, 1) := dk_172 (dk_at dksX0_willOf_4 6 rfl rfl)
abbrev cX0_asks : ByteArray := prog_1_method_25_code
def yX0_asks : MethodName := ⟨RX0, "asks", "(LOutwardDoors$State;I)V"⟩
def dkwX0_asks_12 : List UInt8 := [46, 133, 80, 42, 180, 0, 67, 16, 11, 21, 4, 133, 80, 177]
abbrev dktX0_asks_12 : List UInt8 := dkwX0_asks_12 ++ []
def dkwX0_asks_11 : List UInt8 := [180, 0, 67, 16, 9, 43, 180, 0, 236, 28, 46, 133, 80, 42, 180, 0, 67, 16, 10, 43, 180, 0, 239, 28]
abbrev dktX0_asks_11 : List UInt8 := dkwX0_asks_11 ++ dktX0_asks_12
def dkwX0_asks_10 : List UInt8 := [43, 180, 0, 195, 182, 1, 14, 184, 1, 10, 133, 80, 42, 180, 0, 67, 16, 8, 29, 133, 80, 42]
abbrev dktX0_asks_10 : List UInt8 := dkwX0_asks_10 ++ dktX0_asks_11
def dkwX0_asks_9 : List UInt8 := [133, 80, 42, 180, 0, 67, 16, 6, 43, 180, 0, 195, 133, 80, 42, 180, 0, 67, 16, 7, 42, 180, 0, 12]
abbrev dktX0_asks_9 : List UInt8 := dkwX0_asks_9 ++ dktX0_asks_10
def dkwX0_asks_8 : List UInt8 := [133, 80, 42, 180, 0, 67, 8, 42, 180, 0, 12, 180, 0, 220, 28, 182, 0, 223, 192, 0, 227, 180, 0, 229]
abbrev dktX0_asks_8 : List UInt8 := dkwX0_asks_8 ++ dktX0_asks_9
def dkwX0_asks_7 : List UInt8 := [42, 180, 0, 67, 6, 43, 180, 0, 192, 28, 46, 133, 80, 42, 180, 0, 67, 7, 42, 180, 0, 77, 28, 46]
abbrev dktX0_asks_7 : List UInt8 := dkwX0_asks_7 ++ dktX0_asks_8
def dkwX0_asks_6 : List UInt8 := [46, 133, 80, 42, 180, 0, 67, 5, 42, 180, 0, 12, 180, 0, 248, 43, 180, 0, 202, 28, 46, 46, 133, 80]
abbrev dktX0_asks_6 : List UInt8 := dkwX0_asks_6 ++ dktX0_asks_7
def dkwX0_asks_5 : List UInt8 := [132, 5, 1, 167, 255, 144, 42, 180, 0, 67, 3, 28, 133, 80, 42, 180, 0, 67, 4, 43, 180, 0, 202, 28]
abbrev dktX0_asks_5 : List UInt8 := dkwX0_asks_5 ++ dktX0_asks_6
def dkwX0_asks_4 : List UInt8 := [180, 0, 248, 43, 180, 0, 202, 28, 46, 46, 164, 0, 7, 4, 167, 0, 4, 3, 184, 1, 10, 96, 54, 4]
abbrev dktX0_asks_4 : List UInt8 := dkwX0_asks_4 ++ dktX0_asks_5
def dkwX0_asks_3 : List UInt8 := [160, 0, 39, 42, 180, 0, 12, 180, 0, 248, 43, 180, 0, 202, 21, 5, 46, 46, 42, 180, 0, 12]
abbrev dktX0_asks_3 : List UInt8 := dkwX0_asks_3 ++ dktX0_asks_4
def dkwX0_asks_2 : List UInt8 := [167, 0, 4, 3, 184, 1, 10, 96, 62, 21, 4, 42, 180, 0, 71, 21, 5, 46, 43, 180, 0, 202, 28, 46]
abbrev dktX0_asks_2 : List UInt8 := dkwX0_asks_2 ++ dktX0_asks_3
def dkwX0_asks_1 : List UInt8 := [160, 0, 6, 167, 0, 91, 29, 43, 180, 0, 202, 21, 5, 46, 43, 180, 0, 202, 28, 46, 160, 0, 7, 4]
abbrev dktX0_asks_1 : List UInt8 := dkwX0_asks_1 ++ dktX0_asks_2
def dkwX0_asks_0 : List UInt8 := [3, 62, 3, 54, 4, 3, 54, 5, 21, 5, 42, 180, 0, 12, 182, 0, 125, 162, 0, 106, 21, 5, 28]
abbrev dktX0_asks_0 : List UInt8 := dkwX0_asks_0 ++ dktX0_asks_1
theorem dksX0_asks_0 : cX0_asks.data.toList.drop 0 = dktX0_asks_0 := by decide +kernel
theorem dksX0_asks_1 : cX0_asks.data.toList.drop 23 = dktX0_asks_1 := dk_seg dksX0_asks_0 23 rfl rfl
theorem dksX0_asks_2 : cX0_asks.data.toList.drop 47 = dktX0_asks_2 := dk_seg dksX0_asks_1 24 rfl rfl
theorem dksX0_asks_3 : cX0_asks.data.toList.drop 71 = dktX0_asks_3 := dk_seg dksX0_asks_2 24 rfl rfl
theorem dksX0_asks_4 : cX0_asks.data.toList.drop 93 = dktX0_asks_4 := dk_seg dksX0_asks_3 22 rfl rfl
theorem dksX0_asks_5 : cX0_asks.data.toList.drop 117 = dktX0_asks_5 := dk_seg dksX0_asks_4 24 rfl rfl
theorem dksX0_asks_6 : cX0_asks.data.toList.drop 141 = dktX0_asks_6 := dk_seg dksX0_asks_5 24 rfl rfl
theorem dksX0_asks_7 : cX0_asks.data.toList.drop 165 = dktX0_asks_7 := dk_seg dksX0_asks_6 24 rfl rfl
theorem dksX0_asks_8 : cX0_asks.data.toList.drop 189 = dktX0_asks_8 := dk_seg dksX0_asks_7 24 rfl rfl
theorem dksX0_asks_9 : cX0_asks.data.toList.drop 213 = dktX0_asks_9 := dk_seg dksX0_asks_8 24 rfl rfl
theorem dksX0_asks_10 : cX0_asks.data.toList.drop 237 = dktX0_asks_10 := dk_seg dksX0_asks_9 24 rfl rfl
theorem dksX0_asks_11 : cX0_asks.data.toList.drop 259 = dktX0_asks_11 := dk_seg dksX0_asks_10 22 rfl rfl
theorem dksX0_asks_12 : cX0_asks.data.toList.drop 283 = dktX0_asks_12 := dk_seg dksX0_asks_11 24 rfl rfl
theorem dX0_asks_0 : decode cX0_asks 0 = .ok (.iconst 0, 1) := dk_3 (dk_at dksX0_asks_0 0 rfl rfl)
theorem dX0_asks_1 : decode cX0_asks 1 = .ok (.istore_n 3, 1) := dk_62 (dk_at dksX0_asks_0 1 rfl rfl)
theorem dX0_asks_2 : decode cX0_asks 2 = .ok (.iconst 0, 1) := dk_3 (dk_at dksX0_asks_0 2 rfl rfl)
theorem dX0_asks_3 : decode cX0_asks 3 = .ok (.istore 4, 2) := dk_54 4 (dk_at dksX0_asks_0 3 rfl rfl)
theorem dX0_asks_5 : decode cX0_asks 5 = .ok (.iconst 0, 1) := dk_3 (dk_at dksX0_asks_0 5 rfl rfl)
theorem dX0_asks_6 : decode cX0_asks 6 = .ok (.istore 5, 2) := dk_54 5 (dk_at dksX0_asks_0 6 rfl rfl)
theorem dX0_asks_8 : decode cX0_asks 8 = .ok (.iload 5, 2) := dk_21 5 (dk_at dksX0_asks_0 8 rfl rfl)
theorem dX0_asks_10 : decode cX0_asks 10 = .ok (.aload_n 0, 1) := dk_42 (dk_at dksX0_asks_0 10 rfl rfl)
theorem dX0_asks_11 : decode cX0_asks 11 = .ok (.getfield 12, 3) := dk_180 0 12 (dk_at dksX0_asks_0 11 rfl rfl)
theorem dX0_asks_14 : decode cX0_asks 14 = .ok (.invokevirtual 125, 3) := dk_182 0 125 (dk_at dksX0_asks_0 14 rfl rfl)
theorem dX0_asks_17 : decode cX0_asks 17 = .ok (.if_icmp .ge 106, 3) := dk_162 0 106 (dk_at dksX0_asks_0 17 rfl rfl)
theorem dX0_asks_20 : decode cX0_asks 20 = .ok (.iload 5, 2) := dk_21 5 (dk_at dksX0_asks_0 20 rfl rfl)
theorem dX0_asks_22 : decode cX0_asks 22 = .ok (.iload_n 2, 1) := dk_28 (dk_at dksX0_asks_0 22 rfl rfl)
theorem dX0_asks_23 : decode cX0_asks 23 = .ok (.if_icmp .ne 6, 3) := dk_160 0 6 (dk_at dksX0_asks_1 0 rfl rfl)
theorem dX0_asks_26 : decode cX0_asks 26 = .ok (.goto 91, 3) := dk_167 0 91 (dk_at dksX0_asks_1 3 rfl rfl)
theorem dX0_asks_29 : decode cX0_asks 29 = .ok (.iload_n 3, 1) := dk_29 (dk_at dksX0_asks_1 6 rfl rfl)
theorem dX0_asks_30 : decode cX0_asks 30 = .ok (.aload_n 1, 1) := dk_43 (dk_at dksX0_asks_1 7 rfl rfl)
theorem dX0_asks_31 : decode cX0_asks 31 = .ok (.getfield 202, 3) := dk_180 0 202 (dk_at dksX0_asks_1 8 rfl rfl)
theorem dX0_asks_34 : decode cX0_asks 34 = .ok (.iload 5, 2) := dk_21 5 (dk_at dksX0_asks_1 11 rfl rfl)
theorem dX0_asks_36 : decode cX0_asks 36 = .ok (.iaload, 1) := dk_46 (dk_at dksX0_asks_1 13 rfl rfl)
theorem dX0_asks_37 : decode cX0_asks 37 = .ok (.aload_n 1, 1) := dk_43 (dk_at dksX0_asks_1 14 rfl rfl)
theorem dX0_asks_38 : decode cX0_asks 38 = .ok (.getfield 202, 3) := dk_180 0 202 (dk_at dksX0_asks_1 15 rfl rfl)
theorem dX0_asks_41 : decode cX0_asks 41 = .ok (.iload_n 2, 1) := dk_28 (dk_at dksX0_asks_1 18 rfl rfl)
theorem dX0_asks_42 : decode cX0_asks 42 = .ok (.iaload, 1) := dk_46 (dk_at dksX0_asks_1 19 rfl rfl)
theorem dX0_asks_43 : decode cX0_asks 43 = .ok (.if_icmp .ne 7, 3) := dk_160 0 7 (dk_at dksX0_asks_1 20 rfl rfl)
theorem dX0_asks_46 : decode cX0_asks 46 = .ok (.iconst 1, 1) := dk_4 (dk_at dksX0_asks_1 23 rfl rfl)
theorem dX0_asks_47 : decode cX0_asks 47 = .ok (.goto 4, 3) := dk_167 0 4 (dk_at dksX0_asks_2 0 rfl rfl)
theorem dX0_asks_50 : decode cX0_asks 50 = .ok (.iconst 0, 1) := dk_3 (dk_at dksX0_asks_2 3 rfl rfl)
theorem dX0_asks_51 : decode cX0_asks 51 = .ok (.invokestatic 266, 3) := dk_184 1 10 (dk_at dksX0_asks_2 4 rfl rfl)
theorem dX0_asks_54 : decode cX0_asks 54 = .ok (.iadd, 1) := dk_96 (dk_at dksX0_asks_2 7 rfl rfl)
theorem dX0_asks_55 : decode cX0_asks 55 = .ok (.istore_n 3, 1) := dk_62 (dk_at dksX0_asks_2 8 rfl rfl)
theorem dX0_asks_56 : decode cX0_asks 56 = .ok (.iload 4, 2) := dk_21 4 (dk_at dksX0_asks_2 9 rfl rfl)
theorem dX0_asks_58 : decode cX0_asks 58 = .ok (.aload_n 0, 1) := dk_42 (dk_at dksX0_asks_2 11 rfl rfl)
theorem dX0_asks_59 : decode cX0_asks 59 = .ok (.getfield 71, 3) := dk_180 0 71 (dk_at dksX0_asks_2 12 rfl rfl)
theorem dX0_asks_62 : decode cX0_asks 62 = .ok (.iload 5, 2) := dk_21 5 (dk_at dksX0_asks_2 15 rfl rfl)
theorem dX0_asks_64 : decode cX0_asks 64 = .ok (.iaload, 1) := dk_46 (dk_at dksX0_asks_2 17 rfl rfl)
theorem dX0_asks_65 : decode cX0_asks 65 = .ok (.aload_n 1, 1) := dk_43 (dk_at dksX0_asks_2 18 rfl rfl)
theorem dX0_asks_66 : decode cX0_asks 66 = .ok (.getfield 202, 3) := dk_180 0 202 (dk_at dksX0_asks_2 19 rfl rfl)
theorem dX0_asks_69 : decode cX0_asks 69 = .ok (.iload_n 2, 1) := dk_28 (dk_at dksX0_asks_2 22 rfl rfl)
theorem dX0_asks_70 : decode cX0_asks 70 = .ok (.iaload, 1) := dk_46 (dk_at dksX0_asks_2 23 rfl rfl)
theorem dX0_asks_71 : decode cX0_asks 71 = .ok (.if_icmp .ne 39, 3) := dk_160 0 39 (dk_at dksX0_asks_3 0 rfl rfl)
theorem dX0_asks_74 : decode cX0_asks 74 = .ok (.aload_n 0, 1) := dk_42 (dk_at dksX0_asks_3 3 rfl rfl)
theorem dX0_asks_75 : decode cX0_asks 75 = .ok (.getfield 12, 3) := dk_180 0 12 (dk_at dksX0_asks_3 4 rfl rfl)
theorem dX0_asks_78 : decode cX0_asks 78 = .ok (.getfield 248, 3) := dk_180 0 248 (dk_at dksX0_asks_3 7 rfl rfl)
theorem dX0_asks_81 : decode cX0_asks 81 = .ok (.aload_n 1, 1) := dk_43 (dk_at dksX0_asks_3 10 rfl rfl)
theorem dX0_asks_82 : decode cX0_asks 82 = .ok (.getfield 202, 3) := dk_180 0 202 (dk_at dksX0_asks_3 11 rfl rfl)
theorem dX0_asks_85 : decode cX0_asks 85 = .ok (.iload 5, 2) := dk_21 5 (dk_at dksX0_asks_3 14 rfl rfl)
theorem dX0_asks_87 : decode cX0_asks 87 = .ok (.iaload, 1) := dk_46 (dk_at dksX0_asks_3 16 rfl rfl)
theorem dX0_asks_88 : decode cX0_asks 88 = .ok (.iaload, 1) := dk_46 (dk_at dksX0_asks_3 17 rfl rfl)
theorem dX0_asks_89 : decode cX0_asks 89 = .ok (.aload_n 0, 1) := dk_42 (dk_at dksX0_asks_3 18 rfl rfl)
theorem dX0_asks_90 : decode cX0_asks 90 = .ok (.getfield 12, 3) := dk_180 0 12 (dk_at dksX0_asks_3 19 rfl rfl)
theorem dX0_asks_93 : decode cX0_asks 93 = .ok (.getfield 248, 3) := dk_180 0 248 (dk_at dksX0_asks_4 0 rfl rfl)
theorem dX0_asks_96 : decode cX0_asks 96 = .ok (.aload_n 1, 1) := dk_43 (dk_at dksX0_asks_4 3 rfl rfl)
theorem dX0_asks_97 : decode cX0_asks 97 = .ok (.getfield 202, 3) := dk_180 0 202 (dk_at dksX0_asks_4 4 rfl rfl)
theorem dX0_asks_100 : decode cX0_asks 100 = .ok (.iload_n 2, 1) := dk_28 (dk_at dksX0_asks_4 7 rfl rfl)
theorem dX0_asks_101 : decode cX0_asks 101 = .ok (.iaload, 1) := dk_46 (dk_at dksX0_asks_4 8 rfl rfl)
theorem dX0_asks_102 : decode cX0_asks 102 = .ok (.iaload, 1) := dk_46 (dk_at dksX0_asks_4 9 rfl rfl)
theorem dX0_asks_103 : decode cX0_asks 103 = .ok (.if_icmp .le 7, 3) := dk_164 0 7 (dk_at dksX0_asks_4 10 rfl rfl)
theorem dX0_asks_106 : decode cX0_asks 106 = .ok (.iconst 1, 1) := dk_4 (dk_at dksX0_asks_4 13 rfl rfl)
theorem dX0_asks_107 : decode cX0_asks 107 = .ok (.goto 4, 3) := dk_167 0 4 (dk_at dksX0_asks_4 14 rfl rfl)
theorem dX0_asks_110 : decode cX0_asks 110 = .ok (.iconst 0, 1) := dk_3 (dk_at dksX0_asks_4 17 rfl rfl)
theorem dX0_asks_111 : decode cX0_asks 111 = .ok (.invokestatic 266, 3) := dk_184 1 10 (dk_at dksX0_asks_4 18 rfl rfl)
theorem dX0_asks_114 : decode cX0_asks 114 = .ok (.iadd, 1) := dk_96 (dk_at dksX0_asks_4 21 rfl rfl)
theorem dX0_asks_115 : decode cX0_asks 115 = .ok (.istore 4, 2) := dk_54 4 (dk_at dksX0_asks_4 22 rfl rfl)
theorem dX0_asks_117 : decode cX0_asks 117 = .ok (.iinc 5 1, 3) := dk_132 5 1 (dk_at dksX0_asks_5 0 rfl rfl)
theorem dX0_asks_120 : decode cX0_asks 120 = .ok (.goto (-112), 3) := dk_167 255 144 (dk_at dksX0_asks_5 3 rfl rfl)
theorem dX0_asks_123 : decode cX0_asks 123 = .ok (.aload_n 0, 1) := dk_42 (dk_at dksX0_asks_5 6 rfl rfl)
theorem dX0_asks_124 : decode cX0_asks 124 = .ok (.getfield 67, 3) := dk_180 0 67 (dk_at dksX0_asks_5 7 rfl rfl)
theorem dX0_asks_127 : decode cX0_asks 127 = .ok (.iconst 0, 1) := dk_3 (dk_at dksX0_asks_5 10 rfl rfl)
theorem dX0_asks_128 : decode cX0_asks 128 = .ok (.iload_n 2, 1) := dk_28 (dk_at dksX0_asks_5 11 rfl rfl)
theorem dX0_asks_129 : decode cX0_asks 129 = .ok (.i2l, 1) := dk_133 (dk_at dksX0_asks_5 12 rfl rfl)
theorem dX0_asks_130 : decode cX0_asks 130 = .ok (.lastore, 1) := dk_80 (dk_at dksX0_asks_5 13 rfl rfl)
theorem dX0_asks_131 : decode cX0_asks 131 = .ok (.aload_n 0, 1) := dk_42 (dk_at dksX0_asks_5 14 rfl rfl)
theorem dX0_asks_132 : decode cX0_asks 132 = .ok (.getfield 67, 3) := dk_180 0 67 (dk_at dksX0_asks_5 15 rfl rfl)
theorem dX0_asks_135 : decode cX0_asks 135 = .ok (.iconst 1, 1) := dk_4 (dk_at dksX0_asks_5 18 rfl rfl)
theorem dX0_asks_136 : decode cX0_asks 136 = .ok (.aload_n 1, 1) := dk_43 (dk_at dksX0_asks_5 19 rfl rfl)
theorem dX0_asks_137 : decode cX0_asks 137 = .ok (.getfield 202, 3) := dk_180 0 202 (dk_at dksX0_asks_5 20 rfl rfl)
theorem dX0_asks_140 : decode cX0_asks 140 = .ok (.iload_n 2, 1) := dk_28 (dk_at dksX0_asks_5 23 rfl rfl)
theorem dX0_asks_141 : decode cX0_asks 141 = .ok (.iaload, 1) := dk_46 (dk_at dksX0_asks_6 0 rfl rfl)
theorem dX0_asks_142 : decode cX0_asks 142 = .ok (.i2l, 1) := dk_133 (dk_at dksX0_asks_6 1 rfl rfl)
theorem dX0_asks_143 : decode cX0_asks 143 = .ok (.lastore, 1) := dk_80 (dk_at dksX0_asks_6 2 rfl rfl)
theorem dX0_asks_144 : decode cX0_asks 144 = .ok (.aload_n 0, 1) := dk_42 (dk_at dksX0_asks_6 3 rfl rfl)
theorem dX0_asks_145 : decode cX0_asks 145 = .ok (.getfield 67, 3) := dk_180 0 67 (dk_at dksX0_asks_6 4 rfl rfl)
theorem dX0_asks_148 : decode cX0_asks 148 = .ok (.iconst 2, 1) := dk_5 (dk_at dksX0_asks_6 7 rfl rfl)
theorem dX0_asks_149 : decode cX0_asks 149 = .ok (.aload_n 0, 1) := dk_42 (dk_at dksX0_asks_6 8 rfl rfl)
theorem dX0_asks_150 : decode cX0_asks 150 = .ok (.getfield 12, 3) := dk_180 0 12 (dk_at dksX0_asks_6 9 rfl rfl)
theorem dX0_asks_153 : decode cX0_asks 153 = .ok (.getfield 248, 3) := dk_180 0 248 (dk_at dksX0_asks_6 12 rfl rfl)
theorem dX0_asks_156 : decode cX0_asks 156 = .ok (.aload_n 1, 1) := dk_43 (dk_at dksX0_asks_6 15 rfl rfl)
theorem dX0_asks_157 : decode cX0_asks 157 = .ok (.getfield 202, 3) := dk_180 0 202 (dk_at dksX0_asks_6 16 rfl rfl)
theorem dX0_asks_160 : decode cX0_asks 160 = .ok (.iload_n 2, 1) := dk_28 (dk_at dksX0_asks_6 19 rfl rfl)
theorem dX0_asks_161 : decode cX0_asks 161 = .ok (.iaload, 1) := dk_46 (dk_at dksX0_asks_6 20 rfl rfl)
theorem dX0_asks_162 : decode cX0_asks 162 = .ok (.iaload, 1) := dk_46 (dk_at dksX0_asks_6 21 rfl rfl)
theorem dX0_asks_163 : decode cX0_asks 163 = .ok (.i2l, 1) := dk_133 (dk_at dksX0_asks_6 22 rfl rfl)
theorem dX0_asks_164 : decode cX0_asks 164 = .ok (.lastore, 1) := dk_80 (dk_at dksX0_asks_6 23 rfl rfl)
theorem dX0_asks_165 : decode cX0_asks 165 = .ok (.aload_n 0, 1) := dk_42 (dk_at dksX0_asks_7 0 rfl rfl)
theorem dX0_asks_166 : decode cX0_asks 166 = .ok (.getfield 67, 3) := dk_180 0 67 (dk_at dksX0_asks_7 1 rfl rfl)
theorem dX0_asks_169 : decode cX0_asks 169 = .ok (.iconst 3, 1) := dk_6 (dk_at dksX0_asks_7 4 rfl rfl)
theorem dX0_asks_170 : decode cX0_asks 170 = .ok (.aload_n 1, 1) := dk_43 (dk_at dksX0_asks_7 5 rfl rfl)
theorem dX0_asks_171 : decode cX0_asks 171 = .ok (.getfield 192, 3) := dk_180 0 192 (dk_at dksX0_asks_7 6 rfl rfl)
theorem dX0_asks_174 : decode cX0_asks 174 = .ok (.iload_n 2, 1) := dk_28 (dk_at dksX0_asks_7 9 rfl rfl)
theorem dX0_asks_175 : decode cX0_asks 175 = .ok (.iaload, 1) := dk_46 (dk_at dksX0_asks_7 10 rfl rfl)
theorem dX0_asks_176 : decode cX0_asks 176 = .ok (.i2l, 1) := dk_133 (dk_at dksX0_asks_7 11 rfl rfl)
theorem dX0_asks_177 : decode cX0_asks 177 = .ok (.lastore, 1) := dk_80 (dk_at dksX0_asks_7 12 rfl rfl)
theorem dX0_asks_178 : decode cX0_asks 178 = .ok (.aload_n 0, 1) := dk_42 (dk_at dksX0_asks_7 13 rfl rfl)
theorem dX0_asks_179 : decode cX0_asks 179 = .ok (.getfield 67, 3) := dk_180 0 67 (dk_at dksX0_asks_7 14 rfl rfl)
theorem dX0_asks_182 : decode cX0_asks 182 = .ok (.iconst 4, 1) := dk_7 (dk_at dksX0_asks_7 17 rfl rfl)
theorem dX0_asks_183 : decode cX0_asks 183 = .ok (.aload_n 0, 1) := dk_42 (dk_at dksX0_asks_7 18 rfl rfl)
theorem dX0_asks_184 : decode cX0_asks 184 = .ok (.getfield 77, 3) := dk_180 0 77 (dk_at dksX0_asks_7 19 rfl rfl)
theorem dX0_asks_187 : decode cX0_asks 187 = .ok (.iload_n 2, 1) := dk_28 (dk_at dksX0_asks_7 22 rfl rfl)
theorem dX0_asks_188 : decode cX0_asks 188 = .ok (.iaload, 1) := dk_46 (dk_at dksX0_asks_7 23 rfl rfl)
theorem dX0_asks_189 : decode cX0_asks 189 = .ok (.i2l, 1) := dk_133 (dk_at dksX0_asks_8 0 rfl rfl)
theorem dX0_asks_190 : decode cX0_asks 190 = .ok (.lastore, 1) := dk_80 (dk_at dksX0_asks_8 1 rfl rfl)
theorem dX0_asks_191 : decode cX0_asks 191 = .ok (.aload_n 0, 1) := dk_42 (dk_at dksX0_asks_8 2 rfl rfl)
theorem dX0_asks_192 : decode cX0_asks 192 = .ok (.getfield 67, 3) := dk_180 0 67 (dk_at dksX0_asks_8 3 rfl rfl)
theorem dX0_asks_195 : decode cX0_asks 195 = .ok (.iconst 5, 1) := dk_8 (dk_at dksX0_asks_8 6 rfl rfl)
theorem dX0_asks_196 : decode cX0_asks 196 = .ok (.aload_n 0, 1) := dk_42 (dk_at dksX0_asks_8 7 rfl rfl)
theorem dX0_asks_197 : decode cX0_asks 197 = .ok (.getfield 12, 3) := dk_180 0 12 (dk_at dksX0_asks_8 8 rfl rfl)
theorem dX0_asks_200 : decode cX0_asks 200 = .ok (.getfield 220, 3) := dk_180 0 220 (dk_at dksX0_asks_8 11 rfl rfl)
theorem dX0_asks_203 : decode cX0_asks 203 = .ok (.iload_n 2, 1) := dk_28 (dk_at dksX0_asks_8 14 rfl rfl)
theorem dX0_asks_204 : decode cX0_asks 204 = .ok (.invokevirtual 223, 3) := dk_182 0 223 (dk_at dksX0_asks_8 15 rfl rfl)
theorem dX0_asks_207 : decode cX0_asks 207 = .ok (.checkcast 227, 3) := dk_192 0 227 (dk_at dksX0_asks_8 18 rfl rfl)
theorem dX0_asks_210 : decode cX0_asks 210 = .ok (.getfield 229, 3) := dk_180 0 229 (dk_at dksX0_asks_8 21 rfl rfl)
theorem dX0_asks_213 : decode cX0_asks 213 = .ok (.i2l, 1) := dk_133 (dk_at dksX0_asks_9 0 rfl rfl)
theorem dX0_asks_214 : decode cX0_asks 214 = .ok (.lastore, 1) := dk_80 (dk_at dksX0_asks_9 1 rfl rfl)
theorem dX0_asks_215 : decode cX0_asks 215 = .ok (.aload_n 0, 1) := dk_42 (dk_at dksX0_asks_9 2 rfl rfl)
theorem dX0_asks_216 : decode cX0_asks 216 = .ok (.getfield 67, 3) := dk_180 0 67 (dk_at dksX0_asks_9 3 rfl rfl)
theorem dX0_asks_219 : decode cX0_asks 219 = .ok (.bipush 6, 2) := dk_16 6 (dk_at dksX0_asks_9 6 rfl rfl)
theorem dX0_asks_221 : decode cX0_asks 221 = .ok (.aload_n 1, 1) := dk_43 (dk_at dksX0_asks_9 8 rfl rfl)
theorem dX0_asks_222 : decode cX0_asks 222 = .ok (.getfield 195, 3) := dk_180 0 195 (dk_at dksX0_asks_9 9 rfl rfl)
theorem dX0_asks_225 : decode cX0_asks 225 = .ok (.i2l, 1) := dk_133 (dk_at dksX0_asks_9 12 rfl rfl)
theorem dX0_asks_226 : decode cX0_asks 226 = .ok (.lastore, 1) := dk_80 (dk_at dksX0_asks_9 13 rfl rfl)
theorem dX0_asks_227 : decode cX0_asks 227 = .ok (.aload_n 0, 1) := dk_42 (dk_at dksX0_asks_9 14 rfl rfl)
theorem dX0_asks_228 : decode cX0_asks 228 = .ok (.getfield 67, 3) := dk_180 0 67 (dk_at dksX0_asks_9 15 rfl rfl)
theorem dX0_asks_231 : decode cX0_asks 231 = .ok (.bipush 7, 2) := dk_16 7 (dk_at dksX0_asks_9 18 rfl rfl)
theorem dX0_asks_233 : decode cX0_asks 233 = .ok (.aload_n 0, 1) := dk_42 (dk_at dksX0_asks_9 20 rfl rfl)
theorem dX0_asks_234 : decode cX0_asks 234 = .ok (.getfield 12, 3) := dk_180 0 12 (dk_at dksX0_asks_9 21 rfl rfl)
theorem dX0_asks_237 : decode cX0_asks 237 = .ok (.aload_n 1, 1) := dk_43 (dk_at dksX0_asks_10 0 rfl rfl)
theorem dX0_asks_238 : decode cX0_asks 238 = .ok (.getfield 195, 3) := dk_180 0 195 (dk_at dksX0_asks_10 1 rfl rfl)
theorem dX0_asks_241 : decode cX0_asks 241 = .ok (.invokevirtual 270, 3) := dk_182 1 14 (dk_at dksX0_asks_10 4 rfl rfl)
theorem dX0_asks_244 : decode cX0_asks 244 = .ok (.invokestatic 266, 3) := dk_184 1 10 (dk_at dksX0_asks_10 7 rfl rfl)
theorem dX0_asks_247 : decode cX0_asks 247 = .ok (.i2l, 1) := dk_133 (dk_at dksX0_asks_10 10 rfl rfl)
theorem dX0_asks_248 : decode cX0_asks 248 = .ok (.lastore, 1) := dk_80 (dk_at dksX0_asks_10 11 rfl rfl)
theorem dX0_asks_249 : decode cX0_asks 249 = .ok (.aload_n 0, 1) := dk_42 (dk_at dksX0_asks_10 12 rfl rfl)
theorem dX0_asks_250 : decode cX0_asks 250 = .ok (.getfield 67, 3) := dk_180 0 67 (dk_at dksX0_asks_10 13 rfl rfl)
theorem dX0_asks_253 : decode cX0_asks 253 = .ok (.bipush 8, 2) := dk_16 8 (dk_at dksX0_asks_10 16 rfl rfl)
theorem dX0_asks_255 : decode cX0_asks 255 = .ok (.iload_n 3, 1) := dk_29 (dk_at dksX0_asks_10 18 rfl rfl)
theorem dX0_asks_256 : decode cX0_asks 256 = .ok (.i2l, 1) := dk_133 (dk_at dksX0_asks_10 19 rfl rfl)
theorem dX0_asks_257 : decode cX0_asks 257 = .ok (.lastore, 1) := dk_80 (dk_at dksX0_asks_10 20 rfl rfl)
theorem dX0_asks_258 : decode cX0_asks 258 = .ok (.aload_n 0, 1) := dk_42 (dk_at dksX0_asks_10 21 rfl rfl)
theorem dX0_asks_259 : decode cX0_asks 259 = .ok (.getfield 67, 3) := dk_180 0 67 (dk_at dksX0_asks_11 0 rfl rfl)
theorem dX0_asks_262 : decode cX0_asks 262 = .ok (.bipush 9, 2) := dk_16 9 (dk_at dksX0_asks_11 3 rfl rfl)
theorem dX0_asks_264 : decode cX0_asks 264 = .ok (.aload_n 1, 1) := dk_43 (dk_at dksX0_asks_11 5 rfl rfl)
theorem dX0_asks_265 : decode cX0_asks 265 = .ok (.getfield 236, 3) := dk_180 0 236 (dk_at dksX0_asks_11 6 rfl rfl)
theorem dX0_asks_268 : decode cX0_asks 268 = .ok (.iload_n 2, 1) := dk_28 (dk_at dksX0_asks_11 9 rfl rfl)
theorem dX0_asks_269 : decode cX0_asks 269 = .ok (.iaload, 1) := dk_46 (dk_at dksX0_asks_11 10 rfl rfl)
theorem dX0_asks_270 : decode cX0_asks 270 = .ok (.i2l, 1) := dk_133 (dk_at dksX0_asks_11 11 rfl rfl)
theorem dX0_asks_271 : decode cX0_asks 271 = .ok (.lastore, 1) := dk_80 (dk_at dksX0_asks_11 12 rfl rfl)
theorem dX0_asks_272 : decode cX0_asks 272 = .ok (.aload_n 0, 1) := dk_42 (dk_at dksX0_asks_11 13 rfl rfl)
theorem dX0_asks_273 : decode cX0_asks 273 = .ok (.getfield 67, 3) := dk_180 0 67 (dk_at dksX0_asks_11 14 rfl rfl)
theorem dX0_asks_276 : decode cX0_asks 276 = .ok (.bipush 10, 2) := dk_16 10 (dk_at dksX0_asks_11 17 rfl rfl)
theorem dX0_asks_278 : decode cX0_asks 278 = .ok (.aload_n 1, 1) := dk_43 (dk_at dksX0_asks_11 19 rfl rfl)
theorem dX0_asks_279 : decode cX0_asks 279 = .ok (.getfield 239, 3) := dk_180 0 239 (dk_at dksX0_asks_11 20 rfl rfl)
theorem dX0_asks_282 : decode cX0_asks 282 = .ok (.iload_n 2, 1) := dk_28 (dk_at dksX0_asks_11 23 rfl rfl)
theorem dX0_asks_283 : decode cX0_asks 283 = .ok (.iaload, 1) := dk_46 (dk_at dksX0_asks_12 0 rfl rfl)
theorem dX0_asks_284 : decode cX0_asks 284 = .ok (.i2l, 1) := dk_133 (dk_at dksX0_asks_12 1 rfl rfl)
theorem dX0_asks_285 : decode cX0_asks 285 = .ok (.lastore, 1) := dk_80 (dk_at dksX0_asks_12 2 rfl rfl)
theorem dX0_asks_286 : decode cX0_asks 286 = .ok (.aload_n 0, 1) := dk_42 (dk_at dksX0_asks_12 3 rfl rfl)
theorem dX0_asks_287 : decode cX0_asks 287 = .ok (.getfield 67, 3) := dk_180 0 67 (dk_at dksX0_asks_12 4 rfl rfl)
theorem dX0_asks_290 : decode cX0_asks 290 = .ok (.bipush 11, 2) := dk_16 11 (dk_at dksX0_asks_12 7 rfl rfl)
theorem dX0_asks_292 : decode cX0_asks 292 = .ok (.iload 4, 2) := dk_21 4 (dk_at dksX0_asks_12 9 rfl rfl)
theorem dX0_asks_294 : decode cX0_asks 294 = .ok (.i2l, 1) := dk_133 (dk_at dksX0_asks_12 11 rfl rfl)
theorem dX0_asks_295 : decode cX0_asks 295 = .ok (.lastore, 1) := dk_80 (dk_at dksX0_asks_12 12 rfl rfl)
theorem dX0_asks_296 : decode cX0_asks 296 = .ok (.return_, 1) := dk_177 (dk_at dksX0_asks_12 13 rfl rfl)
abbrev cX0_goesOut : ByteArray := prog_1_method_28_code
def yX0_goesOut : MethodName := ⟨RX0, "goesOut", "(LOutwardDoors$State;I)Z"⟩
def dkwX0_goesOut_1 : List UInt8 := [180, 0, 202, 28, 46, 160, 0, 7, 4, 167, 0, 4, 3, 172]
abbrev dktX0_goesOut_1 : List UInt8 := dkwX0_goesOut_1 ++ []
def dkwX0_goesOut_0 : List UInt8 := [42, 180, 0, 74, 28, 46, 2, 159, 0, 29, 42, 180, 0, 12, 42, 180, 0, 74, 28, 46, 182, 0, 179, 43]
abbrev dktX0_goesOut_0 : List UInt8 := dkwX0_goesOut_0 ++ dktX0_goesOut_1
theorem dksX0_goesOut_0 : cX0_goesOut.data.toList.drop 0 = dktX0_goesOut_0 := by decide +kernel
theorem dksX0_goesOut_1 : cX0_goesOut.data.toList.drop 24 = dktX0_goesOut_1 := dk_seg dksX0_goesOut_0 24 rfl rfl
theorem dX0_goesOut_0 : decode cX0_goesOut 0 = .ok (.aload_n 0, 1) := dk_42 (dk_at dksX0_goesOut_0 0 rfl rfl)
theorem dX0_goesOut_1 : decode cX0_goesOut 1 = .ok (.getfield 74, 3) := dk_180 0 74 (dk_at dksX0_goesOut_0 1 rfl rfl)
theorem dX0_goesOut_4 : decode cX0_goesOut 4 = .ok (.iload_n 2, 1) := dk_28 (dk_at dksX0_goesOut_0 4 rfl rfl)
theorem dX0_goesOut_5 : decode cX0_goesOut 5 = .ok (.iaload, 1) := dk_46 (dk_at dksX0_goesOut_0 5 rfl rfl)
theorem dX0_goesOut_6 : decode cX0_goesOut 6 = .ok (.iconst (-1), 1) := dk_2 (dk_at dksX0_goesOut_0 6 rfl rfl)
theorem dX0_goesOut_7 : decode cX0_goesOut 7 = .ok (.if_icmp .eq 29, 3) := dk_159 0 29 (dk_at dksX0_goesOut_0 7 rfl rfl)
theorem dX0_goesOut_10 : decode cX0_goesOut 10 = .ok (.aload_n 0, 1) := dk_42 (dk_at dksX0_goesOut_0 10 rfl rfl)
theorem dX0_goesOut_11 : decode cX0_goesOut 11 = .ok (.getfield 12, 3) := dk_180 0 12 (dk_at dksX0_goesOut_0 11 rfl rfl)
theorem dX0_goesOut_14 : decode cX0_goesOut 14 = .ok (.aload_n 0, 1) := dk_42 (dk_at dksX0_goesOut_0 14 rfl rfl)
theorem dX0_goesOut_15 : decode cX0_goesOut 15 = .ok (.getfield 74, 3) := dk_180 0 74 (dk_at dksX0_goesOut_0 15 rfl rfl)
theorem dX0_goesOut_18 : decode cX0_goesOut 18 = .ok (.iload_n 2, 1) := dk_28 (dk_at dksX0_goesOut_0 18 rfl rfl)
theorem dX0_goesOut_19 : decode cX0_goesOut 19 = .ok (.iaload, 1) := dk_46 (dk_at dksX0_goesOut_0 19 rfl rfl)
theorem dX0_goesOut_20 : decode cX0_goesOut 20 = .ok (.invokevirtual 179, 3) := dk_182 0 179 (dk_at dksX0_goesOut_0 20 rfl rfl)
theorem dX0_goesOut_23 : decode cX0_goesOut 23 = .ok (.aload_n 1, 1) := dk_43 (dk_at dksX0_goesOut_0 23 rfl rfl)
theorem dX0_goesOut_24 : decode cX0_goesOut 24 = .ok (.getfield 202, 3) := dk_180 0 202 (dk_at dksX0_goesOut_1 0 rfl rfl)
theorem dX0_goesOut_27 : decode cX0_goesOut 27 = .ok (.iload_n 2, 1) := dk_28 (dk_at dksX0_goesOut_1 3 rfl rfl)
theorem dX0_goesOut_28 : decode cX0_goesOut 28 = .ok (.iaload, 1) := dk_46 (dk_at dksX0_goesOut_1 4 rfl rfl)
theorem dX0_goesOut_29 : decode cX0_goesOut 29 = .ok (.if_icmp .ne 7, 3) := dk_160 0 7 (dk_at dksX0_goesOut_1 5 rfl rfl)
theorem dX0_goesOut_32 : decode cX0_goesOut 32 = .ok (.iconst 1, 1) := dk_4 (dk_at dksX0_goesOut_1 8 rfl rfl)
theorem dX0_goesOut_33 : decode cX0_goesOut 33 = .ok (.goto 4, 3) := dk_167 0 4 (dk_at dksX0_goesOut_1 9 rfl rfl)
theorem dX0_goesOut_36 : decode cX0_goesOut 36 = .ok (.iconst 0, 1) := dk_3 (dk_at dksX0_goesOut_1 12 rfl rfl)
theorem dX0_goesOut_37 : decode cX0_goesOut 37 = .ok (.ireturn, 1) := dk_172 (dk_at dksX0_goesOut_1 13 rfl rfl)
abbrev cX0_passes : ByteArray := prog_1_method_29_code
def yX0_passes : MethodName := ⟨RX0, "passes", "(LOutwardDoors$State;II)I"⟩
def dkwX0_passes_6 : List UInt8 := [182, 1, 36, 132, 5, 1, 132, 6, 1, 167, 255, 187, 21, 4, 21, 5, 96, 172]
abbrev dktX0_passes_6 : List UInt8 := dkwX0_passes_6 ++ []
def dkwX0_passes_5 : List UInt8 := [159, 0, 6, 167, 0, 27, 43, 21, 6, 42, 180, 0, 12, 28, 182, 0, 179, 42, 180, 0, 80, 21, 5, 46]
abbrev dktX0_passes_5 : List UInt8 := dkwX0_passes_5 ++ dktX0_passes_6
def dkwX0_passes_4 : List UInt8 := [21, 4, 162, 0, 56, 29, 21, 6, 184, 0, 213, 154, 0, 41, 42, 180, 0, 74, 21, 6, 46, 28]
abbrev dktX0_passes_4 : List UInt8 := dkwX0_passes_4 ++ dktX0_passes_5
def dkwX0_passes_3 : List UInt8 := [167, 255, 192, 3, 54, 5, 3, 54, 6, 21, 6, 42, 180, 0, 12, 182, 0, 125, 162, 0, 63, 21, 5]
abbrev dktX0_passes_3 : List UInt8 := dkwX0_passes_3 ++ dktX0_passes_4
def dkwX0_passes_2 : List UInt8 := [28, 182, 0, 183, 182, 1, 33, 42, 180, 0, 80, 21, 4, 21, 5, 79, 132, 4, 1, 132, 5, 1]
abbrev dktX0_passes_2 : List UInt8 := dkwX0_passes_2 ++ dktX0_passes_3
def dkwX0_passes_1 : List UInt8 := [153, 0, 43, 42, 180, 0, 74, 21, 5, 46, 28, 159, 0, 6, 167, 0, 29, 43, 21, 5, 42, 180, 0, 12]
abbrev dktX0_passes_1 : List UInt8 := dkwX0_passes_1 ++ dktX0_passes_2
def dkwX0_passes_0 : List UInt8 := [3, 54, 4, 3, 54, 5, 21, 5, 42, 180, 0, 12, 182, 0, 125, 162, 0, 58, 29, 21, 5, 184, 0, 213]
abbrev dktX0_passes_0 : List UInt8 := dkwX0_passes_0 ++ dktX0_passes_1
theorem dksX0_passes_0 : cX0_passes.data.toList.drop 0 = dktX0_passes_0 := by decide +kernel
theorem dksX0_passes_1 : cX0_passes.data.toList.drop 24 = dktX0_passes_1 := dk_seg dksX0_passes_0 24 rfl rfl
theorem dksX0_passes_2 : cX0_passes.data.toList.drop 48 = dktX0_passes_2 := dk_seg dksX0_passes_1 24 rfl rfl
theorem dksX0_passes_3 : cX0_passes.data.toList.drop 70 = dktX0_passes_3 := dk_seg dksX0_passes_2 22 rfl rfl
theorem dksX0_passes_4 : cX0_passes.data.toList.drop 93 = dktX0_passes_4 := dk_seg dksX0_passes_3 23 rfl rfl
theorem dksX0_passes_5 : cX0_passes.data.toList.drop 115 = dktX0_passes_5 := dk_seg dksX0_passes_4 22 rfl rfl
theorem dksX0_passes_6 : cX0_passes.data.toList.drop 139 = dktX0_passes_6 := dk_seg dksX0_passes_5 24 rfl rfl
theorem dX0_passes_0 : decode cX0_passes 0 = .ok (.iconst 0, 1) := dk_3 (dk_at dksX0_passes_0 0 rfl rfl)
theorem dX0_passes_1 : decode cX0_passes 1 = .ok (.istore 4, 2) := dk_54 4 (dk_at dksX0_passes_0 1 rfl rfl)
theorem dX0_passes_3 : decode cX0_passes 3 = .ok (.iconst 0, 1) := dk_3 (dk_at dksX0_passes_0 3 rfl rfl)
theorem dX0_passes_4 : decode cX0_passes 4 = .ok (.istore 5, 2) := dk_54 5 (dk_at dksX0_passes_0 4 rfl rfl)
theorem dX0_passes_6 : decode cX0_passes 6 = .ok (.iload 5, 2) := dk_21 5 (dk_at dksX0_passes_0 6 rfl rfl)
theorem dX0_passes_8 : decode cX0_passes 8 = .ok (.aload_n 0, 1) := dk_42 (dk_at dksX0_passes_0 8 rfl rfl)
theorem dX0_passes_9 : decode cX0_passes 9 = .ok (.getfield 12, 3) := dk_180 0 12 (dk_at dksX0_passes_0 9 rfl rfl)
theorem dX0_passes_12 : decode cX0_passes 12 = .ok (.invokevirtual 125, 3) := dk_182 0 125 (dk_at dksX0_passes_0 12 rfl rfl)
theorem dX0_passes_15 : decode cX0_passes 15 = .ok (.if_icmp .ge 58, 3) := dk_162 0 58 (dk_at dksX0_passes_0 15 rfl rfl)
theorem dX0_passes_18 : decode cX0_passes 18 = .ok (.iload_n 3, 1) := dk_29 (dk_at dksX0_passes_0 18 rfl rfl)
theorem dX0_passes_19 : decode cX0_passes 19 = .ok (.iload 5, 2) := dk_21 5 (dk_at dksX0_passes_0 19 rfl rfl)
theorem dX0_passes_21 : decode cX0_passes 21 = .ok (.invokestatic 213, 3) := dk_184 0 213 (dk_at dksX0_passes_0 21 rfl rfl)
theorem dX0_passes_24 : decode cX0_passes 24 = .ok (.ifCond .eq 43, 3) := dk_153 0 43 (dk_at dksX0_passes_1 0 rfl rfl)
theorem dX0_passes_27 : decode cX0_passes 27 = .ok (.aload_n 0, 1) := dk_42 (dk_at dksX0_passes_1 3 rfl rfl)
theorem dX0_passes_28 : decode cX0_passes 28 = .ok (.getfield 74, 3) := dk_180 0 74 (dk_at dksX0_passes_1 4 rfl rfl)
theorem dX0_passes_31 : decode cX0_passes 31 = .ok (.iload 5, 2) := dk_21 5 (dk_at dksX0_passes_1 7 rfl rfl)
theorem dX0_passes_33 : decode cX0_passes 33 = .ok (.iaload, 1) := dk_46 (dk_at dksX0_passes_1 9 rfl rfl)
theorem dX0_passes_34 : decode cX0_passes 34 = .ok (.iload_n 2, 1) := dk_28 (dk_at dksX0_passes_1 10 rfl rfl)
theorem dX0_passes_35 : decode cX0_passes 35 = .ok (.if_icmp .eq 6, 3) := dk_159 0 6 (dk_at dksX0_passes_1 11 rfl rfl)
theorem dX0_passes_38 : decode cX0_passes 38 = .ok (.goto 29, 3) := dk_167 0 29 (dk_at dksX0_passes_1 14 rfl rfl)
theorem dX0_passes_41 : decode cX0_passes 41 = .ok (.aload_n 1, 1) := dk_43 (dk_at dksX0_passes_1 17 rfl rfl)
theorem dX0_passes_42 : decode cX0_passes 42 = .ok (.iload 5, 2) := dk_21 5 (dk_at dksX0_passes_1 18 rfl rfl)
theorem dX0_passes_44 : decode cX0_passes 44 = .ok (.aload_n 0, 1) := dk_42 (dk_at dksX0_passes_1 20 rfl rfl)
theorem dX0_passes_45 : decode cX0_passes 45 = .ok (.getfield 12, 3) := dk_180 0 12 (dk_at dksX0_passes_1 21 rfl rfl)
theorem dX0_passes_48 : decode cX0_passes 48 = .ok (.iload_n 2, 1) := dk_28 (dk_at dksX0_passes_2 0 rfl rfl)
theorem dX0_passes_49 : decode cX0_passes 49 = .ok (.invokevirtual 183, 3) := dk_182 0 183 (dk_at dksX0_passes_2 1 rfl rfl)
theorem dX0_passes_52 : decode cX0_passes 52 = .ok (.invokevirtual 289, 3) := dk_182 1 33 (dk_at dksX0_passes_2 4 rfl rfl)
theorem dX0_passes_55 : decode cX0_passes 55 = .ok (.aload_n 0, 1) := dk_42 (dk_at dksX0_passes_2 7 rfl rfl)
theorem dX0_passes_56 : decode cX0_passes 56 = .ok (.getfield 80, 3) := dk_180 0 80 (dk_at dksX0_passes_2 8 rfl rfl)
theorem dX0_passes_59 : decode cX0_passes 59 = .ok (.iload 4, 2) := dk_21 4 (dk_at dksX0_passes_2 11 rfl rfl)
theorem dX0_passes_61 : decode cX0_passes 61 = .ok (.iload 5, 2) := dk_21 5 (dk_at dksX0_passes_2 13 rfl rfl)
theorem dX0_passes_63 : decode cX0_passes 63 = .ok (.iastore, 1) := dk_79 (dk_at dksX0_passes_2 15 rfl rfl)
theorem dX0_passes_64 : decode cX0_passes 64 = .ok (.iinc 4 1, 3) := dk_132 4 1 (dk_at dksX0_passes_2 16 rfl rfl)
theorem dX0_passes_67 : decode cX0_passes 67 = .ok (.iinc 5 1, 3) := dk_132 5 1 (dk_at dksX0_passes_2 19 rfl rfl)
theorem dX0_passes_70 : decode cX0_passes 70 = .ok (.goto (-64), 3) := dk_167 255 192 (dk_at dksX0_passes_3 0 rfl rfl)
theorem dX0_passes_73 : decode cX0_passes 73 = .ok (.iconst 0, 1) := dk_3 (dk_at dksX0_passes_3 3 rfl rfl)
theorem dX0_passes_74 : decode cX0_passes 74 = .ok (.istore 5, 2) := dk_54 5 (dk_at dksX0_passes_3 4 rfl rfl)
theorem dX0_passes_76 : decode cX0_passes 76 = .ok (.iconst 0, 1) := dk_3 (dk_at dksX0_passes_3 6 rfl rfl)
theorem dX0_passes_77 : decode cX0_passes 77 = .ok (.istore 6, 2) := dk_54 6 (dk_at dksX0_passes_3 7 rfl rfl)
theorem dX0_passes_79 : decode cX0_passes 79 = .ok (.iload 6, 2) := dk_21 6 (dk_at dksX0_passes_3 9 rfl rfl)
theorem dX0_passes_81 : decode cX0_passes 81 = .ok (.aload_n 0, 1) := dk_42 (dk_at dksX0_passes_3 11 rfl rfl)
theorem dX0_passes_82 : decode cX0_passes 82 = .ok (.getfield 12, 3) := dk_180 0 12 (dk_at dksX0_passes_3 12 rfl rfl)
theorem dX0_passes_85 : decode cX0_passes 85 = .ok (.invokevirtual 125, 3) := dk_182 0 125 (dk_at dksX0_passes_3 15 rfl rfl)
theorem dX0_passes_88 : decode cX0_passes 88 = .ok (.if_icmp .ge 63, 3) := dk_162 0 63 (dk_at dksX0_passes_3 18 rfl rfl)
theorem dX0_passes_91 : decode cX0_passes 91 = .ok (.iload 5, 2) := dk_21 5 (dk_at dksX0_passes_3 21 rfl rfl)
theorem dX0_passes_93 : decode cX0_passes 93 = .ok (.iload 4, 2) := dk_21 4 (dk_at dksX0_passes_4 0 rfl rfl)
theorem dX0_passes_95 : decode cX0_passes 95 = .ok (.if_icmp .ge 56, 3) := dk_162 0 56 (dk_at dksX0_passes_4 2 rfl rfl)
theorem dX0_passes_98 : decode cX0_passes 98 = .ok (.iload_n 3, 1) := dk_29 (dk_at dksX0_passes_4 5 rfl rfl)
theorem dX0_passes_99 : decode cX0_passes 99 = .ok (.iload 6, 2) := dk_21 6 (dk_at dksX0_passes_4 6 rfl rfl)
theorem dX0_passes_101 : decode cX0_passes 101 = .ok (.invokestatic 213, 3) := dk_184 0 213 (dk_at dksX0_passes_4 8 rfl rfl)
theorem dX0_passes_104 : decode cX0_passes 104 = .ok (.ifCond .ne 41, 3) := dk_154 0 41 (dk_at dksX0_passes_4 11 rfl rfl)
theorem dX0_passes_107 : decode cX0_passes 107 = .ok (.aload_n 0, 1) := dk_42 (dk_at dksX0_passes_4 14 rfl rfl)
theorem dX0_passes_108 : decode cX0_passes 108 = .ok (.getfield 74, 3) := dk_180 0 74 (dk_at dksX0_passes_4 15 rfl rfl)
theorem dX0_passes_111 : decode cX0_passes 111 = .ok (.iload 6, 2) := dk_21 6 (dk_at dksX0_passes_4 18 rfl rfl)
theorem dX0_passes_113 : decode cX0_passes 113 = .ok (.iaload, 1) := dk_46 (dk_at dksX0_passes_4 20 rfl rfl)
theorem dX0_passes_114 : decode cX0_passes 114 = .ok (.iload_n 2, 1) := dk_28 (dk_at dksX0_passes_4 21 rfl rfl)
theorem dX0_passes_115 : decode cX0_passes 115 = .ok (.if_icmp .eq 6, 3) := dk_159 0 6 (dk_at dksX0_passes_5 0 rfl rfl)
theorem dX0_passes_118 : decode cX0_passes 118 = .ok (.goto 27, 3) := dk_167 0 27 (dk_at dksX0_passes_5 3 rfl rfl)
theorem dX0_passes_121 : decode cX0_passes 121 = .ok (.aload_n 1, 1) := dk_43 (dk_at dksX0_passes_5 6 rfl rfl)
theorem dX0_passes_122 : decode cX0_passes 122 = .ok (.iload 6, 2) := dk_21 6 (dk_at dksX0_passes_5 7 rfl rfl)
theorem dX0_passes_124 : decode cX0_passes 124 = .ok (.aload_n 0, 1) := dk_42 (dk_at dksX0_passes_5 9 rfl rfl)
theorem dX0_passes_125 : decode cX0_passes 125 = .ok (.getfield 12, 3) := dk_180 0 12 (dk_at dksX0_passes_5 10 rfl rfl)
theorem dX0_passes_128 : decode cX0_passes 128 = .ok (.iload_n 2, 1) := dk_28 (dk_at dksX0_passes_5 13 rfl rfl)
theorem dX0_passes_129 : decode cX0_passes 129 = .ok (.invokevirtual 179, 3) := dk_182 0 179 (dk_at dksX0_passes_5 14 rfl rfl)
theorem dX0_passes_132 : decode cX0_passes 132 = .ok (.aload_n 0, 1) := dk_42 (dk_at dksX0_passes_5 17 rfl rfl)
theorem dX0_passes_133 : decode cX0_passes 133 = .ok (.getfield 80, 3) := dk_180 0 80 (dk_at dksX0_passes_5 18 rfl rfl)
theorem dX0_passes_136 : decode cX0_passes 136 = .ok (.iload 5, 2) := dk_21 5 (dk_at dksX0_passes_5 21 rfl rfl)
theorem dX0_passes_138 : decode cX0_passes 138 = .ok (.iaload, 1) := dk_46 (dk_at dksX0_passes_5 23 rfl rfl)
theorem dX0_passes_139 : decode cX0_passes 139 = .ok (.invokevirtual 292, 3) := dk_182 1 36 (dk_at dksX0_passes_6 0 rfl rfl)
theorem dX0_passes_142 : decode cX0_passes 142 = .ok (.iinc 5 1, 3) := dk_132 5 1 (dk_at dksX0_passes_6 3 rfl rfl)
theorem dX0_passes_145 : decode cX0_passes 145 = .ok (.iinc 6 1, 3) := dk_132 6 1 (dk_at dksX0_passes_6 6 rfl rfl)
theorem dX0_passes_148 : decode cX0_passes 148 = .ok (.goto (-69), 3) := dk_167 255 187 (dk_at dksX0_passes_6 9 rfl rfl)
theorem dX0_passes_151 : decode cX0_passes 151 = .ok (.iload 4, 2) := dk_21 4 (dk_at dksX0_passes_6 12 rfl rfl)
theorem dX0_passes_153 : decode cX0_passes 153 = .ok (.iload 5, 2) := dk_21 5 (dk_at dksX0_passes_6 14 rfl rfl)
theorem dX0_passes_155 : decode cX0_passes 155 = .ok (.iadd, 1) := dk_96 (dk_at dksX0_passes_6 16 rfl rfl)
theorem dX0_passes_156 : decode cX0_passes 156 = .ok (.ireturn, 1) := dk_172 (dk_at dksX0_passes_6 17 rfl rfl)
abbrev cX0_aim : ByteArray := prog_1_method_35_code
def yX0_aim : MethodName := ⟨RX0, "aim", "(II)I"⟩
def dkwX0_aim_2 : List UInt8 := [180, 0, 19, 180, 0, 192, 27, 28, 79, 29, 172]
abbrev dktX0_aim_2 : List UInt8 := dkwX0_aim_2 ++ []
def dkwX0_aim_1 : List UInt8 := [46, 28, 160, 0, 5, 2, 172, 42, 182, 1, 56, 42, 180, 0, 19, 180, 0, 192, 27, 46, 62, 42]
abbrev dktX0_aim_1 : List UInt8 := dkwX0_aim_1 ++ dktX0_aim_2
def dkwX0_aim_0 : List UInt8 := [42, 27, 182, 0, 216, 153, 0, 24, 42, 28, 182, 0, 245, 153, 0, 16, 42, 180, 0, 19, 180, 0, 192, 27]
abbrev dktX0_aim_0 : List UInt8 := dkwX0_aim_0 ++ dktX0_aim_1
theorem dksX0_aim_0 : cX0_aim.data.toList.drop 0 = dktX0_aim_0 := by decide +kernel
theorem dksX0_aim_1 : cX0_aim.data.toList.drop 24 = dktX0_aim_1 := dk_seg dksX0_aim_0 24 rfl rfl
theorem dksX0_aim_2 : cX0_aim.data.toList.drop 46 = dktX0_aim_2 := dk_seg dksX0_aim_1 22 rfl rfl
theorem dX0_aim_0 : decode cX0_aim 0 = .ok (.aload_n 0, 1) := dk_42 (dk_at dksX0_aim_0 0 rfl rfl)
theorem dX0_aim_1 : decode cX0_aim 1 = .ok (.iload_n 1, 1) := dk_27 (dk_at dksX0_aim_0 1 rfl rfl)
theorem dX0_aim_2 : decode cX0_aim 2 = .ok (.invokevirtual 216, 3) := dk_182 0 216 (dk_at dksX0_aim_0 2 rfl rfl)
theorem dX0_aim_5 : decode cX0_aim 5 = .ok (.ifCond .eq 24, 3) := dk_153 0 24 (dk_at dksX0_aim_0 5 rfl rfl)
theorem dX0_aim_8 : decode cX0_aim 8 = .ok (.aload_n 0, 1) := dk_42 (dk_at dksX0_aim_0 8 rfl rfl)
theorem dX0_aim_9 : decode cX0_aim 9 = .ok (.iload_n 2, 1) := dk_28 (dk_at dksX0_aim_0 9 rfl rfl)
theorem dX0_aim_10 : decode cX0_aim 10 = .ok (.invokevirtual 245, 3) := dk_182 0 245 (dk_at dksX0_aim_0 10 rfl rfl)
theorem dX0_aim_13 : decode cX0_aim 13 = .ok (.ifCond .eq 16, 3) := dk_153 0 16 (dk_at dksX0_aim_0 13 rfl rfl)
theorem dX0_aim_16 : decode cX0_aim 16 = .ok (.aload_n 0, 1) := dk_42 (dk_at dksX0_aim_0 16 rfl rfl)
theorem dX0_aim_17 : decode cX0_aim 17 = .ok (.getfield 19, 3) := dk_180 0 19 (dk_at dksX0_aim_0 17 rfl rfl)
theorem dX0_aim_20 : decode cX0_aim 20 = .ok (.getfield 192, 3) := dk_180 0 192 (dk_at dksX0_aim_0 20 rfl rfl)
theorem dX0_aim_23 : decode cX0_aim 23 = .ok (.iload_n 1, 1) := dk_27 (dk_at dksX0_aim_0 23 rfl rfl)
theorem dX0_aim_24 : decode cX0_aim 24 = .ok (.iaload, 1) := dk_46 (dk_at dksX0_aim_1 0 rfl rfl)
theorem dX0_aim_25 : decode cX0_aim 25 = .ok (.iload_n 2, 1) := dk_28 (dk_at dksX0_aim_1 1 rfl rfl)
theorem dX0_aim_26 : decode cX0_aim 26 = .ok (.if_icmp .ne 5, 3) := dk_160 0 5 (dk_at dksX0_aim_1 2 rfl rfl)
theorem dX0_aim_29 : decode cX0_aim 29 = .ok (.iconst (-1), 1) := dk_2 (dk_at dksX0_aim_1 5 rfl rfl)
theorem dX0_aim_30 : decode cX0_aim 30 = .ok (.ireturn, 1) := dk_172 (dk_at dksX0_aim_1 6 rfl rfl)
theorem dX0_aim_31 : decode cX0_aim 31 = .ok (.aload_n 0, 1) := dk_42 (dk_at dksX0_aim_1 7 rfl rfl)
theorem dX0_aim_32 : decode cX0_aim 32 = .ok (.invokevirtual 312, 3) := dk_182 1 56 (dk_at dksX0_aim_1 8 rfl rfl)
theorem dX0_aim_35 : decode cX0_aim 35 = .ok (.aload_n 0, 1) := dk_42 (dk_at dksX0_aim_1 11 rfl rfl)
theorem dX0_aim_36 : decode cX0_aim 36 = .ok (.getfield 19, 3) := dk_180 0 19 (dk_at dksX0_aim_1 12 rfl rfl)
theorem dX0_aim_39 : decode cX0_aim 39 = .ok (.getfield 192, 3) := dk_180 0 192 (dk_at dksX0_aim_1 15 rfl rfl)
theorem dX0_aim_42 : decode cX0_aim 42 = .ok (.iload_n 1, 1) := dk_27 (dk_at dksX0_aim_1 18 rfl rfl)
theorem dX0_aim_43 : decode cX0_aim 43 = .ok (.iaload, 1) := dk_46 (dk_at dksX0_aim_1 19 rfl rfl)
theorem dX0_aim_44 : decode cX0_aim 44 = .ok (.istore_n 3, 1) := dk_62 (dk_at dksX0_aim_1 20 rfl rfl)
theorem dX0_aim_45 : decode cX0_aim 45 = .ok (.aload_n 0, 1) := dk_42 (dk_at dksX0_aim_1 21 rfl rfl)
theorem dX0_aim_46 : decode cX0_aim 46 = .ok (.getfield 19, 3) := dk_180 0 19 (dk_at dksX0_aim_2 0 rfl rfl)
theorem dX0_aim_49 : decode cX0_aim 49 = .ok (.getfield 192, 3) := dk_180 0 192 (dk_at dksX0_aim_2 3 rfl rfl)
theorem dX0_aim_52 : decode cX0_aim 52 = .ok (.iload_n 1, 1) := dk_27 (dk_at dksX0_aim_2 6 rfl rfl)
theorem dX0_aim_53 : decode cX0_aim 53 = .ok (.iload_n 2, 1) := dk_28 (dk_at dksX0_aim_2 7 rfl rfl)
theorem dX0_aim_54 : decode cX0_aim 54 = .ok (.iastore, 1) := dk_79 (dk_at dksX0_aim_2 8 rfl rfl)
theorem dX0_aim_55 : decode cX0_aim 55 = .ok (.iload_n 3, 1) := dk_29 (dk_at dksX0_aim_2 9 rfl rfl)
theorem dX0_aim_56 : decode cX0_aim 56 = .ok (.ireturn, 1) := dk_172 (dk_at dksX0_aim_2 10 rfl rfl)
abbrev cX0_send : ByteArray := prog_1_method_37_code
def yX0_send : MethodName := ⟨RX0, "send", "(III)Z"⟩
def dkwX0_send_2 : List UInt8 := [180, 0, 12, 28, 182, 0, 183, 182, 1, 33, 4, 172]
abbrev dktX0_send_2 : List UInt8 := dkwX0_send_2 ++ []
def dkwX0_send_1 : List UInt8 := [180, 0, 19, 29, 42, 180, 0, 12, 28, 182, 0, 179, 27, 182, 1, 36, 42, 180, 0, 19, 27, 42]
abbrev dktX0_send_1 : List UInt8 := dkwX0_send_1 ++ dktX0_send_2
def dkwX0_send_0 : List UInt8 := [42, 27, 28, 29, 182, 1, 63, 154, 0, 5, 3, 172, 42, 182, 1, 56, 29, 2, 159, 0, 20, 42]
abbrev dktX0_send_0 : List UInt8 := dkwX0_send_0 ++ dktX0_send_1
theorem dksX0_send_0 : cX0_send.data.toList.drop 0 = dktX0_send_0 := by decide +kernel
theorem dksX0_send_1 : cX0_send.data.toList.drop 22 = dktX0_send_1 := dk_seg dksX0_send_0 22 rfl rfl
theorem dksX0_send_2 : cX0_send.data.toList.drop 44 = dktX0_send_2 := dk_seg dksX0_send_1 22 rfl rfl
theorem dX0_send_0 : decode cX0_send 0 = .ok (.aload_n 0, 1) := dk_42 (dk_at dksX0_send_0 0 rfl rfl)
theorem dX0_send_1 : decode cX0_send 1 = .ok (.iload_n 1, 1) := dk_27 (dk_at dksX0_send_0 1 rfl rfl)
theorem dX0_send_2 : decode cX0_send 2 = .ok (.iload_n 2, 1) := dk_28 (dk_at dksX0_send_0 2 rfl rfl)
theorem dX0_send_3 : decode cX0_send 3 = .ok (.iload_n 3, 1) := dk_29 (dk_at dksX0_send_0 3 rfl rfl)
theorem dX0_send_4 : decode cX0_send 4 = .ok (.invokevirtual 319, 3) := dk_182 1 63 (dk_at dksX0_send_0 4 rfl rfl)
theorem dX0_send_7 : decode cX0_send 7 = .ok (.ifCond .ne 5, 3) := dk_154 0 5 (dk_at dksX0_send_0 7 rfl rfl)
theorem dX0_send_10 : decode cX0_send 10 = .ok (.iconst 0, 1) := dk_3 (dk_at dksX0_send_0 10 rfl rfl)
theorem dX0_send_11 : decode cX0_send 11 = .ok (.ireturn, 1) := dk_172 (dk_at dksX0_send_0 11 rfl rfl)
theorem dX0_send_12 : decode cX0_send 12 = .ok (.aload_n 0, 1) := dk_42 (dk_at dksX0_send_0 12 rfl rfl)
theorem dX0_send_13 : decode cX0_send 13 = .ok (.invokevirtual 312, 3) := dk_182 1 56 (dk_at dksX0_send_0 13 rfl rfl)
theorem dX0_send_16 : decode cX0_send 16 = .ok (.iload_n 3, 1) := dk_29 (dk_at dksX0_send_0 16 rfl rfl)
theorem dX0_send_17 : decode cX0_send 17 = .ok (.iconst (-1), 1) := dk_2 (dk_at dksX0_send_0 17 rfl rfl)
theorem dX0_send_18 : decode cX0_send 18 = .ok (.if_icmp .eq 20, 3) := dk_159 0 20 (dk_at dksX0_send_0 18 rfl rfl)
theorem dX0_send_21 : decode cX0_send 21 = .ok (.aload_n 0, 1) := dk_42 (dk_at dksX0_send_0 21 rfl rfl)
theorem dX0_send_22 : decode cX0_send 22 = .ok (.getfield 19, 3) := dk_180 0 19 (dk_at dksX0_send_1 0 rfl rfl)
theorem dX0_send_25 : decode cX0_send 25 = .ok (.iload_n 3, 1) := dk_29 (dk_at dksX0_send_1 3 rfl rfl)
theorem dX0_send_26 : decode cX0_send 26 = .ok (.aload_n 0, 1) := dk_42 (dk_at dksX0_send_1 4 rfl rfl)
theorem dX0_send_27 : decode cX0_send 27 = .ok (.getfield 12, 3) := dk_180 0 12 (dk_at dksX0_send_1 5 rfl rfl)
theorem dX0_send_30 : decode cX0_send 30 = .ok (.iload_n 2, 1) := dk_28 (dk_at dksX0_send_1 8 rfl rfl)
theorem dX0_send_31 : decode cX0_send 31 = .ok (.invokevirtual 179, 3) := dk_182 0 179 (dk_at dksX0_send_1 9 rfl rfl)
theorem dX0_send_34 : decode cX0_send 34 = .ok (.iload_n 1, 1) := dk_27 (dk_at dksX0_send_1 12 rfl rfl)
theorem dX0_send_35 : decode cX0_send 35 = .ok (.invokevirtual 292, 3) := dk_182 1 36 (dk_at dksX0_send_1 13 rfl rfl)
theorem dX0_send_38 : decode cX0_send 38 = .ok (.aload_n 0, 1) := dk_42 (dk_at dksX0_send_1 16 rfl rfl)
theorem dX0_send_39 : decode cX0_send 39 = .ok (.getfield 19, 3) := dk_180 0 19 (dk_at dksX0_send_1 17 rfl rfl)
theorem dX0_send_42 : decode cX0_send 42 = .ok (.iload_n 1, 1) := dk_27 (dk_at dksX0_send_1 20 rfl rfl)
theorem dX0_send_43 : decode cX0_send 43 = .ok (.aload_n 0, 1) := dk_42 (dk_at dksX0_send_1 21 rfl rfl)
theorem dX0_send_44 : decode cX0_send 44 = .ok (.getfield 12, 3) := dk_180 0 12 (dk_at dksX0_send_2 0 rfl rfl)
theorem dX0_send_47 : decode cX0_send 47 = .ok (.iload_n 2, 1) := dk_28 (dk_at dksX0_send_2 3 rfl rfl)
theorem dX0_send_48 : decode cX0_send 48 = .ok (.invokevirtual 183, 3) := dk_182 0 183 (dk_at dksX0_send_2 4 rfl rfl)
theorem dX0_send_51 : decode cX0_send 51 = .ok (.invokevirtual 289, 3) := dk_182 1 33 (dk_at dksX0_send_2 7 rfl rfl)
theorem dX0_send_54 : decode cX0_send 54 = .ok (.iconst 1, 1) := dk_4 (dk_at dksX0_send_2 10 rfl rfl)
theorem dX0_send_55 : decode cX0_send 55 = .ok (.ireturn, 1) := dk_172 (dk_at dksX0_send_2 11 rfl rfl)
abbrev cX0_canPass : ByteArray := prog_1_method_36_code
def yX0_canPass : MethodName := ⟨RX0, "canPass", "(III)Z"⟩
def dkwX0_canPass_4 : List UInt8 := [167, 0, 4, 3, 172]
abbrev dktX0_canPass_4 : List UInt8 := dkwX0_canPass_4 ++ []
def dkwX0_canPass_3 : List UInt8 := [153, 0, 27, 42, 180, 0, 19, 180, 0, 202, 29, 46, 42, 180, 0, 12, 28, 182, 0, 183, 160, 0, 7, 4]
abbrev dktX0_canPass_3 : List UInt8 := dkwX0_canPass_3 ++ dktX0_canPass_4
def dkwX0_canPass_2 : List UInt8 := [180, 0, 12, 28, 182, 0, 179, 159, 0, 5, 3, 172, 29, 2, 159, 0, 31, 42, 29, 182, 0, 216]
abbrev dktX0_canPass_2 : List UInt8 := dkwX0_canPass_2 ++ dktX0_canPass_3
def dkwX0_canPass_1 : List UInt8 := [180, 0, 19, 180, 0, 195, 182, 0, 175, 153, 0, 23, 42, 180, 0, 19, 180, 0, 202, 27, 46, 42]
abbrev dktX0_canPass_1 : List UInt8 := dkwX0_canPass_1 ++ dktX0_canPass_2
def dkwX0_canPass_0 : List UInt8 := [42, 27, 182, 0, 216, 153, 0, 49, 42, 28, 182, 1, 1, 153, 0, 41, 42, 180, 0, 12, 28, 42]
abbrev dktX0_canPass_0 : List UInt8 := dkwX0_canPass_0 ++ dktX0_canPass_1
theorem dksX0_canPass_0 : cX0_canPass.data.toList.drop 0 = dktX0_canPass_0 := by decide +kernel
theorem dksX0_canPass_1 : cX0_canPass.data.toList.drop 22 = dktX0_canPass_1 := dk_seg dksX0_canPass_0 22 rfl rfl
theorem dksX0_canPass_2 : cX0_canPass.data.toList.drop 44 = dktX0_canPass_2 := dk_seg dksX0_canPass_1 22 rfl rfl
theorem dksX0_canPass_3 : cX0_canPass.data.toList.drop 66 = dktX0_canPass_3 := dk_seg dksX0_canPass_2 22 rfl rfl
theorem dksX0_canPass_4 : cX0_canPass.data.toList.drop 90 = dktX0_canPass_4 := dk_seg dksX0_canPass_3 24 rfl rfl
theorem dX0_canPass_0 : decode cX0_canPass 0 = .ok (.aload_n 0, 1) := dk_42 (dk_at dksX0_canPass_0 0 rfl rfl)
theorem dX0_canPass_1 : decode cX0_canPass 1 = .ok (.iload_n 1, 1) := dk_27 (dk_at dksX0_canPass_0 1 rfl rfl)
theorem dX0_canPass_2 : decode cX0_canPass 2 = .ok (.invokevirtual 216, 3) := dk_182 0 216 (dk_at dksX0_canPass_0 2 rfl rfl)
theorem dX0_canPass_5 : decode cX0_canPass 5 = .ok (.ifCond .eq 49, 3) := dk_153 0 49 (dk_at dksX0_canPass_0 5 rfl rfl)
theorem dX0_canPass_8 : decode cX0_canPass 8 = .ok (.aload_n 0, 1) := dk_42 (dk_at dksX0_canPass_0 8 rfl rfl)
theorem dX0_canPass_9 : decode cX0_canPass 9 = .ok (.iload_n 2, 1) := dk_28 (dk_at dksX0_canPass_0 9 rfl rfl)
theorem dX0_canPass_10 : decode cX0_canPass 10 = .ok (.invokevirtual 257, 3) := dk_182 1 1 (dk_at dksX0_canPass_0 10 rfl rfl)
theorem dX0_canPass_13 : decode cX0_canPass 13 = .ok (.ifCond .eq 41, 3) := dk_153 0 41 (dk_at dksX0_canPass_0 13 rfl rfl)
theorem dX0_canPass_16 : decode cX0_canPass 16 = .ok (.aload_n 0, 1) := dk_42 (dk_at dksX0_canPass_0 16 rfl rfl)
theorem dX0_canPass_17 : decode cX0_canPass 17 = .ok (.getfield 12, 3) := dk_180 0 12 (dk_at dksX0_canPass_0 17 rfl rfl)
theorem dX0_canPass_20 : decode cX0_canPass 20 = .ok (.iload_n 2, 1) := dk_28 (dk_at dksX0_canPass_0 20 rfl rfl)
theorem dX0_canPass_21 : decode cX0_canPass 21 = .ok (.aload_n 0, 1) := dk_42 (dk_at dksX0_canPass_0 21 rfl rfl)
theorem dX0_canPass_22 : decode cX0_canPass 22 = .ok (.getfield 19, 3) := dk_180 0 19 (dk_at dksX0_canPass_1 0 rfl rfl)
theorem dX0_canPass_25 : decode cX0_canPass 25 = .ok (.getfield 195, 3) := dk_180 0 195 (dk_at dksX0_canPass_1 3 rfl rfl)
theorem dX0_canPass_28 : decode cX0_canPass 28 = .ok (.invokevirtual 175, 3) := dk_182 0 175 (dk_at dksX0_canPass_1 6 rfl rfl)
theorem dX0_canPass_31 : decode cX0_canPass 31 = .ok (.ifCond .eq 23, 3) := dk_153 0 23 (dk_at dksX0_canPass_1 9 rfl rfl)
theorem dX0_canPass_34 : decode cX0_canPass 34 = .ok (.aload_n 0, 1) := dk_42 (dk_at dksX0_canPass_1 12 rfl rfl)
theorem dX0_canPass_35 : decode cX0_canPass 35 = .ok (.getfield 19, 3) := dk_180 0 19 (dk_at dksX0_canPass_1 13 rfl rfl)
theorem dX0_canPass_38 : decode cX0_canPass 38 = .ok (.getfield 202, 3) := dk_180 0 202 (dk_at dksX0_canPass_1 16 rfl rfl)
theorem dX0_canPass_41 : decode cX0_canPass 41 = .ok (.iload_n 1, 1) := dk_27 (dk_at dksX0_canPass_1 19 rfl rfl)
theorem dX0_canPass_42 : decode cX0_canPass 42 = .ok (.iaload, 1) := dk_46 (dk_at dksX0_canPass_1 20 rfl rfl)
theorem dX0_canPass_43 : decode cX0_canPass 43 = .ok (.aload_n 0, 1) := dk_42 (dk_at dksX0_canPass_1 21 rfl rfl)
theorem dX0_canPass_44 : decode cX0_canPass 44 = .ok (.getfield 12, 3) := dk_180 0 12 (dk_at dksX0_canPass_2 0 rfl rfl)
theorem dX0_canPass_47 : decode cX0_canPass 47 = .ok (.iload_n 2, 1) := dk_28 (dk_at dksX0_canPass_2 3 rfl rfl)
theorem dX0_canPass_48 : decode cX0_canPass 48 = .ok (.invokevirtual 179, 3) := dk_182 0 179 (dk_at dksX0_canPass_2 4 rfl rfl)
theorem dX0_canPass_51 : decode cX0_canPass 51 = .ok (.if_icmp .eq 5, 3) := dk_159 0 5 (dk_at dksX0_canPass_2 7 rfl rfl)
theorem dX0_canPass_54 : decode cX0_canPass 54 = .ok (.iconst 0, 1) := dk_3 (dk_at dksX0_canPass_2 10 rfl rfl)
theorem dX0_canPass_55 : decode cX0_canPass 55 = .ok (.ireturn, 1) := dk_172 (dk_at dksX0_canPass_2 11 rfl rfl)
theorem dX0_canPass_56 : decode cX0_canPass 56 = .ok (.iload_n 3, 1) := dk_29 (dk_at dksX0_canPass_2 12 rfl rfl)
theorem dX0_canPass_57 : decode cX0_canPass 57 = .ok (.iconst (-1), 1) := dk_2 (dk_at dksX0_canPass_2 13 rfl rfl)
theorem dX0_canPass_58 : decode cX0_canPass 58 = .ok (.if_icmp .eq 31, 3) := dk_159 0 31 (dk_at dksX0_canPass_2 14 rfl rfl)
theorem dX0_canPass_61 : decode cX0_canPass 61 = .ok (.aload_n 0, 1) := dk_42 (dk_at dksX0_canPass_2 17 rfl rfl)
theorem dX0_canPass_62 : decode cX0_canPass 62 = .ok (.iload_n 3, 1) := dk_29 (dk_at dksX0_canPass_2 18 rfl rfl)
theorem dX0_canPass_63 : decode cX0_canPass 63 = .ok (.invokevirtual 216, 3) := dk_182 0 216 (dk_at dksX0_canPass_2 19 rfl rfl)
theorem dX0_canPass_66 : decode cX0_canPass 66 = .ok (.ifCond .eq 27, 3) := dk_153 0 27 (dk_at dksX0_canPass_3 0 rfl rfl)
theorem dX0_canPass_69 : decode cX0_canPass 69 = .ok (.aload_n 0, 1) := dk_42 (dk_at dksX0_canPass_3 3 rfl rfl)
theorem dX0_canPass_70 : decode cX0_canPass 70 = .ok (.getfield 19, 3) := dk_180 0 19 (dk_at dksX0_canPass_3 4 rfl rfl)
theorem dX0_canPass_73 : decode cX0_canPass 73 = .ok (.getfield 202, 3) := dk_180 0 202 (dk_at dksX0_canPass_3 7 rfl rfl)
theorem dX0_canPass_76 : decode cX0_canPass 76 = .ok (.iload_n 3, 1) := dk_29 (dk_at dksX0_canPass_3 10 rfl rfl)
theorem dX0_canPass_77 : decode cX0_canPass 77 = .ok (.iaload, 1) := dk_46 (dk_at dksX0_canPass_3 11 rfl rfl)
theorem dX0_canPass_78 : decode cX0_canPass 78 = .ok (.aload_n 0, 1) := dk_42 (dk_at dksX0_canPass_3 12 rfl rfl)
theorem dX0_canPass_79 : decode cX0_canPass 79 = .ok (.getfield 12, 3) := dk_180 0 12 (dk_at dksX0_canPass_3 13 rfl rfl)
theorem dX0_canPass_82 : decode cX0_canPass 82 = .ok (.iload_n 2, 1) := dk_28 (dk_at dksX0_canPass_3 16 rfl rfl)
theorem dX0_canPass_83 : decode cX0_canPass 83 = .ok (.invokevirtual 183, 3) := dk_182 0 183 (dk_at dksX0_canPass_3 17 rfl rfl)
theorem dX0_canPass_86 : decode cX0_canPass 86 = .ok (.if_icmp .ne 7, 3) := dk_160 0 7 (dk_at dksX0_canPass_3 20 rfl rfl)
theorem dX0_canPass_89 : decode cX0_canPass 89 = .ok (.iconst 1, 1) := dk_4 (dk_at dksX0_canPass_3 23 rfl rfl)
theorem dX0_canPass_90 : decode cX0_canPass 90 = .ok (.goto 4, 3) := dk_167 0 4 (dk_at dksX0_canPass_4 0 rfl rfl)
theorem dX0_canPass_93 : decode cX0_canPass 93 = .ok (.iconst 0, 1) := dk_3 (dk_at dksX0_canPass_4 3 rfl rfl)
theorem dX0_canPass_94 : decode cX0_canPass 94 = .ok (.ireturn, 1) := dk_172 (dk_at dksX0_canPass_4 4 rfl rfl)