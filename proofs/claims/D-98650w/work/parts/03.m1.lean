/-! OutwardDoorsModel -/
set_option maxRecDepth 100000
def RX4 : String := "OutwardDoorsModel"
def TX4 : u_T := fun k => match k with
  | 0 => ("OutwardDoorsModel", "tape", "[B", true)
  | 1 => ("OutwardDoorsModel", "taped", "I", false)
  | 2 => ("OutwardDoorsModel", "rules", "I", false)
  | 3 => ("OutwardDoorsModel", "sign", "[I", true)
  | 4 => ("OutwardDoorsModel", "length", "[I", true)
  | 5 => ("OutwardDoorsModel", "clause", "[I", true)
  | 6 => ("OutwardDoorsModel", "clauses", "[I", true)
  | 7 => ("OutwardDoorsModel", "read", "[I", true)
  | 8 => ("OutwardDoorsModel", "next", "I", false)
  | 9 => ("OutwardDoorsModel", "wrong", "I", false)
  | 10 => ("OutwardDoorsModel", "number", "I", false)
  | 11 => ("OutwardDoorsModel", "text", "I", false)
  | 12 => ("OutwardDoorsModel", "made", "I", false)
  | 13 => ("OutwardDoorsModel", "deep", "I", false)
  | 14 => ("OutwardDoorsModel", "lines", "I", false)
  | 15 => ("OutwardDoorsModel", "open", "[I", true)
  | 16 => ("OutwardDoorsModel", "opened", "I", false)
  | 17 => ("OutwardDoorsModel", "stack", "[J", true)
  | 18 => ("OutwardDoorsModel", "top", "I", false)
  | 19 => ("OutwardDoorsModel", "word", "[J", true)
  | 20 => ("OutwardDoorsModel", "said", "[I", true)
  | 21 => ("OutwardDoorsModel", "force", "I", false)
  | 22 => ("OutwardDoorsModel", "x", "I", false)
  | 23 => ("OutwardDoorsModel", "doorsTo", "[I", true)
  | 24 => ("OutwardDoorsModel", "willDoor", "[I", true)
  | 25 => ("OutwardDoorsModel", "willOut", "[Z", true)
  | 26 => ("OutwardDoorsModel", "wasSaid", "[I", true)
  | 27 => ("OutwardDoorsModel", "undone", "I", false)
  | 28 => ("OutwardDoorsModel", "kept", "[I", true)
  | 29 => ("OutwardDoorsModel", "passings", "[I", true)
  | 30 => ("OutwardDoorsModel", "queue", "[I", true)
  | 31 => ("OutwardDoorsModel", "queued", "I", false)
  | 32 => ("OutwardDoorsModel", "many1", "I", false)
  | 33 => ("OutwardDoorsModel", "wentOut", "I", false)
  | 34 => ("OutwardDoorsModel", "wentBy", "I", false)
  | 35 => ("OutwardDoorsModel", "cameIn", "I", false)
  | 36 => ("OutwardDoorsModel", "pay", "[I", true)
  | 37 => ("OutwardDoorsModel", "isFit", "[Z", true)
  | 38 => ("OutwardDoorsModel", "roomThen", "[I", true)
  | 39 => ("OutwardDoorsModel", "drawX", "J", false)
  | 40 => ("OutwardDoorsModel", "images", "[I", true)
  | 41 => ("OutwardDoorsModel", "imageForce", "[I", true)
  | 42 => ("OutwardDoorsModel", "imageX", "[I", true)
  | _ => ("OutwardDoorsModel", "isMade", "[Z", true)
def tyX4 : Nat → FieldType := fun k => match k with
  | 0 => .array .byte
  | 1 => .int
  | 2 => .int
  | 3 => .array .int
  | 4 => .array .int
  | 5 => .array .int
  | 6 => .array .int
  | 7 => .array .int
  | 8 => .int
  | 9 => .int
  | 10 => .int
  | 11 => .int
  | 12 => .int
  | 13 => .int
  | 14 => .int
  | 15 => .array .int
  | 16 => .int
  | 17 => .array .long
  | 18 => .int
  | 19 => .array .long
  | 20 => .array .int
  | 21 => .int
  | 22 => .int
  | 23 => .array .int
  | 24 => .array .int
  | 25 => .array .boolean
  | 26 => .array .int
  | 27 => .int
  | 28 => .array .int
  | 29 => .array .int
  | 30 => .array .int
  | 31 => .int
  | 32 => .int
  | 33 => .int
  | 34 => .int
  | 35 => .int
  | 36 => .array .int
  | 37 => .array .boolean
  | 38 => .array .int
  | 39 => .long
  | 40 => .array .int
  | 41 => .array .int
  | 42 => .array .int
  | _ => .array .boolean
abbrev wsX40 : List Cond := u_ws RX4 TX4 44
set_option maxRecDepth 100000 in
theorem nmX4 : ∀ a, a < 44 → ∀ b, b < 44 → a ≠ b → (TX4 a).2.1 ≠ (TX4 b).2.1 := by decide +kernel
set_option maxRecDepth 100000 in
theorem tyX4_ok : ∀ k, k < 44 → parseFieldDescriptor (TX4 k).2.2.1 = some (tyX4 k) := by decide +kernel
abbrev cX4_init : ByteArray := prog_20_method_1_code
def yX4_init : MethodName := ⟨RX4, "<init>", "()V"⟩
def dkwX4_init_8 : List UInt8 := [181, 0, 81, 42, 7, 188, 10, 181, 0, 84, 42, 7, 188, 4, 181, 0, 87, 177]
abbrev dktX4_init_8 : List UInt8 := dkwX4_init_8 ++ []
def dkwX4_init_7 : List UInt8 := [181, 0, 72, 42, 16, 28, 188, 10, 181, 0, 75, 42, 17, 1, 236, 188, 10, 181, 0, 78, 42, 7, 188, 10]
abbrev dktX4_init_7 : List UInt8 := dkwX4_init_7 ++ dktX4_init_8
def dkwX4_init_6 : List UInt8 := [42, 18, 62, 188, 10, 181, 0, 66, 42, 17, 16, 0, 188, 10, 181, 0, 69, 42, 16, 7, 188, 4]
abbrev dktX4_init_6 : List UInt8 := dkwX4_init_6 ++ dktX4_init_7
def dkwX4_init_5 : List UInt8 := [17, 2, 168, 188, 10, 181, 0, 56, 42, 16, 34, 188, 10, 181, 0, 59, 42, 18, 62, 188, 10, 181, 0, 63]
abbrev dktX4_init_5 : List UInt8 := dkwX4_init_5 ++ dktX4_init_6
def dkwX4_init_4 : List UInt8 := [42, 16, 8, 188, 10, 181, 0, 46, 42, 7, 188, 10, 181, 0, 49, 42, 7, 188, 4, 181, 0, 52, 42]
abbrev dktX4_init_4 : List UInt8 := dkwX4_init_4 ++ dktX4_init_5
def dkwX4_init_3 : List UInt8 := [181, 0, 32, 42, 16, 12, 188, 11, 181, 0, 36, 42, 16, 123, 188, 10, 181, 0, 39, 42, 2, 181, 0, 42]
abbrev dktX4_init_3 : List UInt8 := dkwX4_init_3 ++ dktX4_init_4
def dkwX4_init_2 : List UInt8 := [42, 16, 84, 188, 10, 181, 0, 26, 42, 17, 1, 144, 188, 10, 181, 0, 29, 42, 16, 64, 188, 11]
abbrev dktX4_init_2 : List UInt8 := dkwX4_init_2 ++ dktX4_init_3
def dkwX4_init_1 : List UInt8 := [16, 7, 188, 10, 181, 0, 17, 42, 17, 1, 32, 188, 10, 181, 0, 20, 42, 16, 6, 188, 10, 181, 0, 23]
abbrev dktX4_init_1 : List UInt8 := dkwX4_init_1 ++ dktX4_init_2
def dkwX4_init_0 : List UInt8 := [42, 183, 0, 1, 42, 17, 1, 144, 188, 8, 181, 0, 7, 42, 17, 9, 96, 188, 10, 181, 0, 13, 42]
abbrev dktX4_init_0 : List UInt8 := dkwX4_init_0 ++ dktX4_init_1
theorem dksX4_init_0 : cX4_init.data.toList.drop 0 = dktX4_init_0 := by decide +kernel
theorem dksX4_init_1 : cX4_init.data.toList.drop 23 = dktX4_init_1 := dk_seg dksX4_init_0 23 rfl rfl
theorem dksX4_init_2 : cX4_init.data.toList.drop 47 = dktX4_init_2 := dk_seg dksX4_init_1 24 rfl rfl
theorem dksX4_init_3 : cX4_init.data.toList.drop 69 = dktX4_init_3 := dk_seg dksX4_init_2 22 rfl rfl
theorem dksX4_init_4 : cX4_init.data.toList.drop 93 = dktX4_init_4 := dk_seg dksX4_init_3 24 rfl rfl
theorem dksX4_init_5 : cX4_init.data.toList.drop 116 = dktX4_init_5 := dk_seg dksX4_init_4 23 rfl rfl
theorem dksX4_init_6 : cX4_init.data.toList.drop 140 = dktX4_init_6 := dk_seg dksX4_init_5 24 rfl rfl
theorem dksX4_init_7 : cX4_init.data.toList.drop 162 = dktX4_init_7 := dk_seg dksX4_init_6 22 rfl rfl
theorem dksX4_init_8 : cX4_init.data.toList.drop 186 = dktX4_init_8 := dk_seg dksX4_init_7 24 rfl rfl
theorem dX4_init_0 : decode cX4_init 0 = .ok (.aload_n 0, 1) := dk_42 (dk_at dksX4_init_0 0 rfl rfl)
theorem dX4_init_1 : decode cX4_init 1 = .ok (.invokespecial 1, 3) := dk_183 0 1 (dk_at dksX4_init_0 1 rfl rfl)
theorem dX4_init_4 : decode cX4_init 4 = .ok (.aload_n 0, 1) := dk_42 (dk_at dksX4_init_0 4 rfl rfl)
theorem dX4_init_5 : decode cX4_init 5 = .ok (.sipush 400, 3) := dk_17 1 144 (dk_at dksX4_init_0 5 rfl rfl)
theorem dX4_init_8 : decode cX4_init 8 = .ok (.newarray .byte, 2) := dk_188_8 (dk_at dksX4_init_0 8 rfl rfl)
theorem dX4_init_10 : decode cX4_init 10 = .ok (.putfield 7, 3) := dk_181 0 7 (dk_at dksX4_init_0 10 rfl rfl)
theorem dX4_init_13 : decode cX4_init 13 = .ok (.aload_n 0, 1) := dk_42 (dk_at dksX4_init_0 13 rfl rfl)
theorem dX4_init_14 : decode cX4_init 14 = .ok (.sipush 2400, 3) := dk_17 9 96 (dk_at dksX4_init_0 14 rfl rfl)
theorem dX4_init_17 : decode cX4_init 17 = .ok (.newarray .int, 2) := dk_188_10 (dk_at dksX4_init_0 17 rfl rfl)
theorem dX4_init_19 : decode cX4_init 19 = .ok (.putfield 13, 3) := dk_181 0 13 (dk_at dksX4_init_0 19 rfl rfl)
theorem dX4_init_22 : decode cX4_init 22 = .ok (.aload_n 0, 1) := dk_42 (dk_at dksX4_init_0 22 rfl rfl)
theorem dX4_init_23 : decode cX4_init 23 = .ok (.bipush 7, 2) := dk_16 7 (dk_at dksX4_init_1 0 rfl rfl)
theorem dX4_init_25 : decode cX4_init 25 = .ok (.newarray .int, 2) := dk_188_10 (dk_at dksX4_init_1 2 rfl rfl)
theorem dX4_init_27 : decode cX4_init 27 = .ok (.putfield 17, 3) := dk_181 0 17 (dk_at dksX4_init_1 4 rfl rfl)
theorem dX4_init_30 : decode cX4_init 30 = .ok (.aload_n 0, 1) := dk_42 (dk_at dksX4_init_1 7 rfl rfl)
theorem dX4_init_31 : decode cX4_init 31 = .ok (.sipush 288, 3) := dk_17 1 32 (dk_at dksX4_init_1 8 rfl rfl)
theorem dX4_init_34 : decode cX4_init 34 = .ok (.newarray .int, 2) := dk_188_10 (dk_at dksX4_init_1 11 rfl rfl)
theorem dX4_init_36 : decode cX4_init 36 = .ok (.putfield 20, 3) := dk_181 0 20 (dk_at dksX4_init_1 13 rfl rfl)
theorem dX4_init_39 : decode cX4_init 39 = .ok (.aload_n 0, 1) := dk_42 (dk_at dksX4_init_1 16 rfl rfl)
theorem dX4_init_40 : decode cX4_init 40 = .ok (.bipush 6, 2) := dk_16 6 (dk_at dksX4_init_1 17 rfl rfl)
theorem dX4_init_42 : decode cX4_init 42 = .ok (.newarray .int, 2) := dk_188_10 (dk_at dksX4_init_1 19 rfl rfl)
theorem dX4_init_44 : decode cX4_init 44 = .ok (.putfield 23, 3) := dk_181 0 23 (dk_at dksX4_init_1 21 rfl rfl)
theorem dX4_init_47 : decode cX4_init 47 = .ok (.aload_n 0, 1) := dk_42 (dk_at dksX4_init_2 0 rfl rfl)
theorem dX4_init_48 : decode cX4_init 48 = .ok (.bipush 84, 2) := dk_16 84 (dk_at dksX4_init_2 1 rfl rfl)
theorem dX4_init_50 : decode cX4_init 50 = .ok (.newarray .int, 2) := dk_188_10 (dk_at dksX4_init_2 3 rfl rfl)
theorem dX4_init_52 : decode cX4_init 52 = .ok (.putfield 26, 3) := dk_181 0 26 (dk_at dksX4_init_2 5 rfl rfl)
theorem dX4_init_55 : decode cX4_init 55 = .ok (.aload_n 0, 1) := dk_42 (dk_at dksX4_init_2 8 rfl rfl)
theorem dX4_init_56 : decode cX4_init 56 = .ok (.sipush 400, 3) := dk_17 1 144 (dk_at dksX4_init_2 9 rfl rfl)
theorem dX4_init_59 : decode cX4_init 59 = .ok (.newarray .int, 2) := dk_188_10 (dk_at dksX4_init_2 12 rfl rfl)
theorem dX4_init_61 : decode cX4_init 61 = .ok (.putfield 29, 3) := dk_181 0 29 (dk_at dksX4_init_2 14 rfl rfl)
theorem dX4_init_64 : decode cX4_init 64 = .ok (.aload_n 0, 1) := dk_42 (dk_at dksX4_init_2 17 rfl rfl)
theorem dX4_init_65 : decode cX4_init 65 = .ok (.bipush 64, 2) := dk_16 64 (dk_at dksX4_init_2 18 rfl rfl)
theorem dX4_init_67 : decode cX4_init 67 = .ok (.newarray .long, 2) := dk_188_11 (dk_at dksX4_init_2 20 rfl rfl)
theorem dX4_init_69 : decode cX4_init 69 = .ok (.putfield 32, 3) := dk_181 0 32 (dk_at dksX4_init_3 0 rfl rfl)
theorem dX4_init_72 : decode cX4_init 72 = .ok (.aload_n 0, 1) := dk_42 (dk_at dksX4_init_3 3 rfl rfl)
theorem dX4_init_73 : decode cX4_init 73 = .ok (.bipush 12, 2) := dk_16 12 (dk_at dksX4_init_3 4 rfl rfl)
theorem dX4_init_75 : decode cX4_init 75 = .ok (.newarray .long, 2) := dk_188_11 (dk_at dksX4_init_3 6 rfl rfl)
theorem dX4_init_77 : decode cX4_init 77 = .ok (.putfield 36, 3) := dk_181 0 36 (dk_at dksX4_init_3 8 rfl rfl)
theorem dX4_init_80 : decode cX4_init 80 = .ok (.aload_n 0, 1) := dk_42 (dk_at dksX4_init_3 11 rfl rfl)
theorem dX4_init_81 : decode cX4_init 81 = .ok (.bipush 123, 2) := dk_16 123 (dk_at dksX4_init_3 12 rfl rfl)
theorem dX4_init_83 : decode cX4_init 83 = .ok (.newarray .int, 2) := dk_188_10 (dk_at dksX4_init_3 14 rfl rfl)
theorem dX4_init_85 : decode cX4_init 85 = .ok (.putfield 39, 3) := dk_181 0 39 (dk_at dksX4_init_3 16 rfl rfl)
theorem dX4_init_88 : decode cX4_init 88 = .ok (.aload_n 0, 1) := dk_42 (dk_at dksX4_init_3 19 rfl rfl)
theorem dX4_init_89 : decode cX4_init 89 = .ok (.iconst (-1), 1) := dk_2 (dk_at dksX4_init_3 20 rfl rfl)
theorem dX4_init_90 : decode cX4_init 90 = .ok (.putfield 42, 3) := dk_181 0 42 (dk_at dksX4_init_3 21 rfl rfl)
theorem dX4_init_93 : decode cX4_init 93 = .ok (.aload_n 0, 1) := dk_42 (dk_at dksX4_init_4 0 rfl rfl)
theorem dX4_init_94 : decode cX4_init 94 = .ok (.bipush 8, 2) := dk_16 8 (dk_at dksX4_init_4 1 rfl rfl)
theorem dX4_init_96 : decode cX4_init 96 = .ok (.newarray .int, 2) := dk_188_10 (dk_at dksX4_init_4 3 rfl rfl)
theorem dX4_init_98 : decode cX4_init 98 = .ok (.putfield 46, 3) := dk_181 0 46 (dk_at dksX4_init_4 5 rfl rfl)
theorem dX4_init_101 : decode cX4_init 101 = .ok (.aload_n 0, 1) := dk_42 (dk_at dksX4_init_4 8 rfl rfl)
theorem dX4_init_102 : decode cX4_init 102 = .ok (.iconst 4, 1) := dk_7 (dk_at dksX4_init_4 9 rfl rfl)
theorem dX4_init_103 : decode cX4_init 103 = .ok (.newarray .int, 2) := dk_188_10 (dk_at dksX4_init_4 10 rfl rfl)
theorem dX4_init_105 : decode cX4_init 105 = .ok (.putfield 49, 3) := dk_181 0 49 (dk_at dksX4_init_4 12 rfl rfl)
theorem dX4_init_108 : decode cX4_init 108 = .ok (.aload_n 0, 1) := dk_42 (dk_at dksX4_init_4 15 rfl rfl)
theorem dX4_init_109 : decode cX4_init 109 = .ok (.iconst 4, 1) := dk_7 (dk_at dksX4_init_4 16 rfl rfl)
theorem dX4_init_110 : decode cX4_init 110 = .ok (.newarray .boolean, 2) := dk_188_4 (dk_at dksX4_init_4 17 rfl rfl)
theorem dX4_init_112 : decode cX4_init 112 = .ok (.putfield 52, 3) := dk_181 0 52 (dk_at dksX4_init_4 19 rfl rfl)
theorem dX4_init_115 : decode cX4_init 115 = .ok (.aload_n 0, 1) := dk_42 (dk_at dksX4_init_4 22 rfl rfl)
theorem dX4_init_116 : decode cX4_init 116 = .ok (.sipush 680, 3) := dk_17 2 168 (dk_at dksX4_init_5 0 rfl rfl)
theorem dX4_init_119 : decode cX4_init 119 = .ok (.newarray .int, 2) := dk_188_10 (dk_at dksX4_init_5 3 rfl rfl)
theorem dX4_init_121 : decode cX4_init 121 = .ok (.putfield 56, 3) := dk_181 0 56 (dk_at dksX4_init_5 5 rfl rfl)
theorem dX4_init_124 : decode cX4_init 124 = .ok (.aload_n 0, 1) := dk_42 (dk_at dksX4_init_5 8 rfl rfl)
theorem dX4_init_125 : decode cX4_init 125 = .ok (.bipush 34, 2) := dk_16 34 (dk_at dksX4_init_5 9 rfl rfl)
theorem dX4_init_127 : decode cX4_init 127 = .ok (.newarray .int, 2) := dk_188_10 (dk_at dksX4_init_5 11 rfl rfl)
theorem dX4_init_129 : decode cX4_init 129 = .ok (.putfield 59, 3) := dk_181 0 59 (dk_at dksX4_init_5 13 rfl rfl)
theorem dX4_init_132 : decode cX4_init 132 = .ok (.aload_n 0, 1) := dk_42 (dk_at dksX4_init_5 16 rfl rfl)
theorem dX4_init_133 : decode cX4_init 133 = .ok (.ldc 62, 2) := dk_18 62 (dk_at dksX4_init_5 17 rfl rfl)
theorem dX4_init_135 : decode cX4_init 135 = .ok (.newarray .int, 2) := dk_188_10 (dk_at dksX4_init_5 19 rfl rfl)
theorem dX4_init_137 : decode cX4_init 137 = .ok (.putfield 63, 3) := dk_181 0 63 (dk_at dksX4_init_5 21 rfl rfl)
theorem dX4_init_140 : decode cX4_init 140 = .ok (.aload_n 0, 1) := dk_42 (dk_at dksX4_init_6 0 rfl rfl)
theorem dX4_init_141 : decode cX4_init 141 = .ok (.ldc 62, 2) := dk_18 62 (dk_at dksX4_init_6 1 rfl rfl)
theorem dX4_init_143 : decode cX4_init 143 = .ok (.newarray .int, 2) := dk_188_10 (dk_at dksX4_init_6 3 rfl rfl)
theorem dX4_init_145 : decode cX4_init 145 = .ok (.putfield 66, 3) := dk_181 0 66 (dk_at dksX4_init_6 5 rfl rfl)
theorem dX4_init_148 : decode cX4_init 148 = .ok (.aload_n 0, 1) := dk_42 (dk_at dksX4_init_6 8 rfl rfl)
theorem dX4_init_149 : decode cX4_init 149 = .ok (.sipush 4096, 3) := dk_17 16 0 (dk_at dksX4_init_6 9 rfl rfl)
theorem dX4_init_152 : decode cX4_init 152 = .ok (.newarray .int, 2) := dk_188_10 (dk_at dksX4_init_6 12 rfl rfl)
theorem dX4_init_154 : decode cX4_init 154 = .ok (.putfield 69, 3) := dk_181 0 69 (dk_at dksX4_init_6 14 rfl rfl)
theorem dX4_init_157 : decode cX4_init 157 = .ok (.aload_n 0, 1) := dk_42 (dk_at dksX4_init_6 17 rfl rfl)
theorem dX4_init_158 : decode cX4_init 158 = .ok (.bipush 7, 2) := dk_16 7 (dk_at dksX4_init_6 18 rfl rfl)
theorem dX4_init_160 : decode cX4_init 160 = .ok (.newarray .boolean, 2) := dk_188_4 (dk_at dksX4_init_6 20 rfl rfl)
theorem dX4_init_162 : decode cX4_init 162 = .ok (.putfield 72, 3) := dk_181 0 72 (dk_at dksX4_init_7 0 rfl rfl)
theorem dX4_init_165 : decode cX4_init 165 = .ok (.aload_n 0, 1) := dk_42 (dk_at dksX4_init_7 3 rfl rfl)
theorem dX4_init_166 : decode cX4_init 166 = .ok (.bipush 28, 2) := dk_16 28 (dk_at dksX4_init_7 4 rfl rfl)
theorem dX4_init_168 : decode cX4_init 168 = .ok (.newarray .int, 2) := dk_188_10 (dk_at dksX4_init_7 6 rfl rfl)
theorem dX4_init_170 : decode cX4_init 170 = .ok (.putfield 75, 3) := dk_181 0 75 (dk_at dksX4_init_7 8 rfl rfl)
theorem dX4_init_173 : decode cX4_init 173 = .ok (.aload_n 0, 1) := dk_42 (dk_at dksX4_init_7 11 rfl rfl)
theorem dX4_init_174 : decode cX4_init 174 = .ok (.sipush 492, 3) := dk_17 1 236 (dk_at dksX4_init_7 12 rfl rfl)
theorem dX4_init_177 : decode cX4_init 177 = .ok (.newarray .int, 2) := dk_188_10 (dk_at dksX4_init_7 15 rfl rfl)
theorem dX4_init_179 : decode cX4_init 179 = .ok (.putfield 78, 3) := dk_181 0 78 (dk_at dksX4_init_7 17 rfl rfl)
theorem dX4_init_182 : decode cX4_init 182 = .ok (.aload_n 0, 1) := dk_42 (dk_at dksX4_init_7 20 rfl rfl)
theorem dX4_init_183 : decode cX4_init 183 = .ok (.iconst 4, 1) := dk_7 (dk_at dksX4_init_7 21 rfl rfl)
theorem dX4_init_184 : decode cX4_init 184 = .ok (.newarray .int, 2) := dk_188_10 (dk_at dksX4_init_7 22 rfl rfl)
theorem dX4_init_186 : decode cX4_init 186 = .ok (.putfield 81, 3) := dk_181 0 81 (dk_at dksX4_init_8 0 rfl rfl)
theorem dX4_init_189 : decode cX4_init 189 = .ok (.aload_n 0, 1) := dk_42 (dk_at dksX4_init_8 3 rfl rfl)
theorem dX4_init_190 : decode cX4_init 190 = .ok (.iconst 4, 1) := dk_7 (dk_at dksX4_init_8 4 rfl rfl)
theorem dX4_init_191 : decode cX4_init 191 = .ok (.newarray .int, 2) := dk_188_10 (dk_at dksX4_init_8 5 rfl rfl)
theorem dX4_init_193 : decode cX4_init 193 = .ok (.putfield 84, 3) := dk_181 0 84 (dk_at dksX4_init_8 7 rfl rfl)
theorem dX4_init_196 : decode cX4_init 196 = .ok (.aload_n 0, 1) := dk_42 (dk_at dksX4_init_8 10 rfl rfl)
theorem dX4_init_197 : decode cX4_init 197 = .ok (.iconst 4, 1) := dk_7 (dk_at dksX4_init_8 11 rfl rfl)
theorem dX4_init_198 : decode cX4_init 198 = .ok (.newarray .boolean, 2) := dk_188_4 (dk_at dksX4_init_8 12 rfl rfl)
theorem dX4_init_200 : decode cX4_init 200 = .ok (.putfield 87, 3) := dk_181 0 87 (dk_at dksX4_init_8 14 rfl rfl)
theorem dX4_init_203 : decode cX4_init 203 = .ok (.return_, 1) := dk_177 (dk_at dksX4_init_8 17 rfl rfl)
abbrev cX4_feed : ByteArray := prog_20_method_5_code
def yX4_feed : MethodName := ⟨RX4, "feed", "(IIIII)I"⟩
def dkwX4_feed_2 : List UInt8 := [172]
abbrev dktX4_feed_2 : List UInt8 := dkwX4_feed_2 ++ []
def dkwX4_feed_1 : List UInt8 := [182, 0, 93, 42, 29, 182, 0, 93, 42, 21, 4, 182, 0, 93, 42, 21, 5, 182, 0, 93, 42, 180, 0, 90]
abbrev dktX4_feed_1 : List UInt8 := dkwX4_feed_1 ++ dktX4_feed_2
def dkwX4_feed_0 : List UInt8 := [42, 180, 0, 90, 16, 20, 96, 17, 1, 144, 164, 0, 5, 2, 172, 42, 27, 182, 0, 93, 42, 28]
abbrev dktX4_feed_0 : List UInt8 := dkwX4_feed_0 ++ dktX4_feed_1
theorem dksX4_feed_0 : cX4_feed.data.toList.drop 0 = dktX4_feed_0 := by decide +kernel
theorem dksX4_feed_1 : cX4_feed.data.toList.drop 22 = dktX4_feed_1 := dk_seg dksX4_feed_0 22 rfl rfl
theorem dksX4_feed_2 : cX4_feed.data.toList.drop 46 = dktX4_feed_2 := dk_seg dksX4_feed_1 24 rfl rfl
theorem dX4_feed_0 : decode cX4_feed 0 = .ok (.aload_n 0, 1) := dk_42 (dk_at dksX4_feed_0 0 rfl rfl)
theorem dX4_feed_1 : decode cX4_feed 1 = .ok (.getfield 90, 3) := dk_180 0 90 (dk_at dksX4_feed_0 1 rfl rfl)
theorem dX4_feed_4 : decode cX4_feed 4 = .ok (.bipush 20, 2) := dk_16 20 (dk_at dksX4_feed_0 4 rfl rfl)
theorem dX4_feed_6 : decode cX4_feed 6 = .ok (.iadd, 1) := dk_96 (dk_at dksX4_feed_0 6 rfl rfl)
theorem dX4_feed_7 : decode cX4_feed 7 = .ok (.sipush 400, 3) := dk_17 1 144 (dk_at dksX4_feed_0 7 rfl rfl)
theorem dX4_feed_10 : decode cX4_feed 10 = .ok (.if_icmp .le 5, 3) := dk_164 0 5 (dk_at dksX4_feed_0 10 rfl rfl)
theorem dX4_feed_13 : decode cX4_feed 13 = .ok (.iconst (-1), 1) := dk_2 (dk_at dksX4_feed_0 13 rfl rfl)
theorem dX4_feed_14 : decode cX4_feed 14 = .ok (.ireturn, 1) := dk_172 (dk_at dksX4_feed_0 14 rfl rfl)
theorem dX4_feed_15 : decode cX4_feed 15 = .ok (.aload_n 0, 1) := dk_42 (dk_at dksX4_feed_0 15 rfl rfl)
theorem dX4_feed_16 : decode cX4_feed 16 = .ok (.iload_n 1, 1) := dk_27 (dk_at dksX4_feed_0 16 rfl rfl)
theorem dX4_feed_17 : decode cX4_feed 17 = .ok (.invokevirtual 93, 3) := dk_182 0 93 (dk_at dksX4_feed_0 17 rfl rfl)
theorem dX4_feed_20 : decode cX4_feed 20 = .ok (.aload_n 0, 1) := dk_42 (dk_at dksX4_feed_0 20 rfl rfl)
theorem dX4_feed_21 : decode cX4_feed 21 = .ok (.iload_n 2, 1) := dk_28 (dk_at dksX4_feed_0 21 rfl rfl)
theorem dX4_feed_22 : decode cX4_feed 22 = .ok (.invokevirtual 93, 3) := dk_182 0 93 (dk_at dksX4_feed_1 0 rfl rfl)
theorem dX4_feed_25 : decode cX4_feed 25 = .ok (.aload_n 0, 1) := dk_42 (dk_at dksX4_feed_1 3 rfl rfl)
theorem dX4_feed_26 : decode cX4_feed 26 = .ok (.iload_n 3, 1) := dk_29 (dk_at dksX4_feed_1 4 rfl rfl)
theorem dX4_feed_27 : decode cX4_feed 27 = .ok (.invokevirtual 93, 3) := dk_182 0 93 (dk_at dksX4_feed_1 5 rfl rfl)
theorem dX4_feed_30 : decode cX4_feed 30 = .ok (.aload_n 0, 1) := dk_42 (dk_at dksX4_feed_1 8 rfl rfl)
theorem dX4_feed_31 : decode cX4_feed 31 = .ok (.iload 4, 2) := dk_21 4 (dk_at dksX4_feed_1 9 rfl rfl)
theorem dX4_feed_33 : decode cX4_feed 33 = .ok (.invokevirtual 93, 3) := dk_182 0 93 (dk_at dksX4_feed_1 11 rfl rfl)
theorem dX4_feed_36 : decode cX4_feed 36 = .ok (.aload_n 0, 1) := dk_42 (dk_at dksX4_feed_1 14 rfl rfl)
theorem dX4_feed_37 : decode cX4_feed 37 = .ok (.iload 5, 2) := dk_21 5 (dk_at dksX4_feed_1 15 rfl rfl)
theorem dX4_feed_39 : decode cX4_feed 39 = .ok (.invokevirtual 93, 3) := dk_182 0 93 (dk_at dksX4_feed_1 17 rfl rfl)
theorem dX4_feed_42 : decode cX4_feed 42 = .ok (.aload_n 0, 1) := dk_42 (dk_at dksX4_feed_1 20 rfl rfl)
theorem dX4_feed_43 : decode cX4_feed 43 = .ok (.getfield 90, 3) := dk_180 0 90 (dk_at dksX4_feed_1 21 rfl rfl)
theorem dX4_feed_46 : decode cX4_feed 46 = .ok (.ireturn, 1) := dk_172 (dk_at dksX4_feed_2 0 rfl rfl)
abbrev cX4_four : ByteArray := prog_20_method_4_code
def yX4_four : MethodName := ⟨RX4, "four", "(I)V"⟩
def dkwX4_four_1 : List UInt8 := [180, 0, 90, 4, 96, 181, 0, 90, 132, 2, 248, 167, 255, 226, 177]
abbrev dktX4_four_1 : List UInt8 := dkwX4_four_1 ++ []
def dkwX4_four_0 : List UInt8 := [16, 24, 61, 28, 155, 0, 32, 42, 180, 0, 7, 42, 180, 0, 90, 27, 28, 122, 145, 84, 42, 89]
abbrev dktX4_four_0 : List UInt8 := dkwX4_four_0 ++ dktX4_four_1
theorem dksX4_four_0 : cX4_four.data.toList.drop 0 = dktX4_four_0 := by decide +kernel
theorem dksX4_four_1 : cX4_four.data.toList.drop 22 = dktX4_four_1 := dk_seg dksX4_four_0 22 rfl rfl
theorem dX4_four_0 : decode cX4_four 0 = .ok (.bipush 24, 2) := dk_16 24 (dk_at dksX4_four_0 0 rfl rfl)
theorem dX4_four_2 : decode cX4_four 2 = .ok (.istore_n 2, 1) := dk_61 (dk_at dksX4_four_0 2 rfl rfl)
theorem dX4_four_3 : decode cX4_four 3 = .ok (.iload_n 2, 1) := dk_28 (dk_at dksX4_four_0 3 rfl rfl)
theorem dX4_four_4 : decode cX4_four 4 = .ok (.ifCond .lt 32, 3) := dk_155 0 32 (dk_at dksX4_four_0 4 rfl rfl)
theorem dX4_four_7 : decode cX4_four 7 = .ok (.aload_n 0, 1) := dk_42 (dk_at dksX4_four_0 7 rfl rfl)
theorem dX4_four_8 : decode cX4_four 8 = .ok (.getfield 7, 3) := dk_180 0 7 (dk_at dksX4_four_0 8 rfl rfl)
theorem dX4_four_11 : decode cX4_four 11 = .ok (.aload_n 0, 1) := dk_42 (dk_at dksX4_four_0 11 rfl rfl)
theorem dX4_four_12 : decode cX4_four 12 = .ok (.getfield 90, 3) := dk_180 0 90 (dk_at dksX4_four_0 12 rfl rfl)
theorem dX4_four_15 : decode cX4_four 15 = .ok (.iload_n 1, 1) := dk_27 (dk_at dksX4_four_0 15 rfl rfl)
theorem dX4_four_16 : decode cX4_four 16 = .ok (.iload_n 2, 1) := dk_28 (dk_at dksX4_four_0 16 rfl rfl)
theorem dX4_four_17 : decode cX4_four 17 = .ok (.ishr, 1) := dk_122 (dk_at dksX4_four_0 17 rfl rfl)
theorem dX4_four_18 : decode cX4_four 18 = .ok (.i2b, 1) := dk_145 (dk_at dksX4_four_0 18 rfl rfl)
theorem dX4_four_19 : decode cX4_four 19 = .ok (.bastore, 1) := dk_84 (dk_at dksX4_four_0 19 rfl rfl)
theorem dX4_four_20 : decode cX4_four 20 = .ok (.aload_n 0, 1) := dk_42 (dk_at dksX4_four_0 20 rfl rfl)
theorem dX4_four_21 : decode cX4_four 21 = .ok (.dup, 1) := dk_89 (dk_at dksX4_four_0 21 rfl rfl)
theorem dX4_four_22 : decode cX4_four 22 = .ok (.getfield 90, 3) := dk_180 0 90 (dk_at dksX4_four_1 0 rfl rfl)
theorem dX4_four_25 : decode cX4_four 25 = .ok (.iconst 1, 1) := dk_4 (dk_at dksX4_four_1 3 rfl rfl)
theorem dX4_four_26 : decode cX4_four 26 = .ok (.iadd, 1) := dk_96 (dk_at dksX4_four_1 4 rfl rfl)
theorem dX4_four_27 : decode cX4_four 27 = .ok (.putfield 90, 3) := dk_181 0 90 (dk_at dksX4_four_1 5 rfl rfl)
theorem dX4_four_30 : decode cX4_four 30 = .ok (.iinc 2 (-8), 3) := dk_132 2 248 (dk_at dksX4_four_1 8 rfl rfl)
theorem dX4_four_33 : decode cX4_four 33 = .ok (.goto (-30), 3) := dk_167 255 226 (dk_at dksX4_four_1 11 rfl rfl)
theorem dX4_four_36 : decode cX4_four 36 = .ok (.return_, 1) := dk_177 (dk_at dksX4_four_1 14 rfl rfl)
abbrev cX4_end : ByteArray := prog_20_method_6_code
def yX4_end : MethodName := ⟨RX4, "end", "(I)I"⟩
def dkwX4_end_0 : List UInt8 := [27, 155, 0, 11, 27, 42, 180, 0, 90, 164, 0, 5, 2, 172, 42, 27, 181, 0, 90, 27, 172]
abbrev dktX4_end_0 : List UInt8 := dkwX4_end_0 ++ []
theorem dksX4_end_0 : cX4_end.data.toList.drop 0 = dktX4_end_0 := by decide +kernel
theorem dX4_end_0 : decode cX4_end 0 = .ok (.iload_n 1, 1) := dk_27 (dk_at dksX4_end_0 0 rfl rfl)
theorem dX4_end_1 : decode cX4_end 1 = .ok (.ifCond .lt 11, 3) := dk_155 0 11 (dk_at dksX4_end_0 1 rfl rfl)
theorem dX4_end_4 : decode cX4_end 4 = .ok (.iload_n 1, 1) := dk_27 (dk_at dksX4_end_0 4 rfl rfl)
theorem dX4_end_5 : decode cX4_end 5 = .ok (.aload_n 0, 1) := dk_42 (dk_at dksX4_end_0 5 rfl rfl)
theorem dX4_end_6 : decode cX4_end 6 = .ok (.getfield 90, 3) := dk_180 0 90 (dk_at dksX4_end_0 6 rfl rfl)
theorem dX4_end_9 : decode cX4_end 9 = .ok (.if_icmp .le 5, 3) := dk_164 0 5 (dk_at dksX4_end_0 9 rfl rfl)
theorem dX4_end_12 : decode cX4_end 12 = .ok (.iconst (-1), 1) := dk_2 (dk_at dksX4_end_0 12 rfl rfl)
theorem dX4_end_13 : decode cX4_end 13 = .ok (.ireturn, 1) := dk_172 (dk_at dksX4_end_0 13 rfl rfl)
theorem dX4_end_14 : decode cX4_end 14 = .ok (.aload_n 0, 1) := dk_42 (dk_at dksX4_end_0 14 rfl rfl)
theorem dX4_end_15 : decode cX4_end 15 = .ok (.iload_n 1, 1) := dk_27 (dk_at dksX4_end_0 15 rfl rfl)
theorem dX4_end_16 : decode cX4_end 16 = .ok (.putfield 90, 3) := dk_181 0 90 (dk_at dksX4_end_0 16 rfl rfl)
theorem dX4_end_19 : decode cX4_end 19 = .ok (.iload_n 1, 1) := dk_27 (dk_at dksX4_end_0 19 rfl rfl)
theorem dX4_end_20 : decode cX4_end 20 = .ok (.ireturn, 1) := dk_172 (dk_at dksX4_end_0 20 rfl rfl)
abbrev cX4_rule : ByteArray := prog_20_method_40_code
def yX4_rule : MethodName := ⟨RX4, "rule", "()I"⟩
def dkwX4_rule_2 : List UInt8 := [180, 1, 14, 4, 96, 181, 1, 14, 42, 180, 1, 14, 4, 100, 172]
abbrev dktX4_rule_2 : List UInt8 := dkwX4_rule_2 ++ []
def dkwX4_rule_1 : List UInt8 := [180, 0, 156, 3, 79, 42, 182, 1, 17, 154, 0, 11, 16, 254, 42, 180, 0, 97, 100, 172, 42, 89]
abbrev dktX4_rule_1 : List UInt8 := dkwX4_rule_1 ++ dktX4_rule_2
def dkwX4_rule_0 : List UInt8 := [42, 180, 1, 14, 16, 6, 160, 0, 5, 2, 172, 42, 42, 180, 1, 14, 181, 0, 156, 42, 180, 0, 23, 42]
abbrev dktX4_rule_0 : List UInt8 := dkwX4_rule_0 ++ dktX4_rule_1
theorem dksX4_rule_0 : cX4_rule.data.toList.drop 0 = dktX4_rule_0 := by decide +kernel
theorem dksX4_rule_1 : cX4_rule.data.toList.drop 24 = dktX4_rule_1 := dk_seg dksX4_rule_0 24 rfl rfl
theorem dksX4_rule_2 : cX4_rule.data.toList.drop 46 = dktX4_rule_2 := dk_seg dksX4_rule_1 22 rfl rfl
theorem dX4_rule_0 : decode cX4_rule 0 = .ok (.aload_n 0, 1) := dk_42 (dk_at dksX4_rule_0 0 rfl rfl)
theorem dX4_rule_1 : decode cX4_rule 1 = .ok (.getfield 270, 3) := dk_180 1 14 (dk_at dksX4_rule_0 1 rfl rfl)
theorem dX4_rule_4 : decode cX4_rule 4 = .ok (.bipush 6, 2) := dk_16 6 (dk_at dksX4_rule_0 4 rfl rfl)
theorem dX4_rule_6 : decode cX4_rule 6 = .ok (.if_icmp .ne 5, 3) := dk_160 0 5 (dk_at dksX4_rule_0 6 rfl rfl)
theorem dX4_rule_9 : decode cX4_rule 9 = .ok (.iconst (-1), 1) := dk_2 (dk_at dksX4_rule_0 9 rfl rfl)
theorem dX4_rule_10 : decode cX4_rule 10 = .ok (.ireturn, 1) := dk_172 (dk_at dksX4_rule_0 10 rfl rfl)
theorem dX4_rule_11 : decode cX4_rule 11 = .ok (.aload_n 0, 1) := dk_42 (dk_at dksX4_rule_0 11 rfl rfl)
theorem dX4_rule_12 : decode cX4_rule 12 = .ok (.aload_n 0, 1) := dk_42 (dk_at dksX4_rule_0 12 rfl rfl)
theorem dX4_rule_13 : decode cX4_rule 13 = .ok (.getfield 270, 3) := dk_180 1 14 (dk_at dksX4_rule_0 13 rfl rfl)
theorem dX4_rule_16 : decode cX4_rule 16 = .ok (.putfield 156, 3) := dk_181 0 156 (dk_at dksX4_rule_0 16 rfl rfl)
theorem dX4_rule_19 : decode cX4_rule 19 = .ok (.aload_n 0, 1) := dk_42 (dk_at dksX4_rule_0 19 rfl rfl)
theorem dX4_rule_20 : decode cX4_rule 20 = .ok (.getfield 23, 3) := dk_180 0 23 (dk_at dksX4_rule_0 20 rfl rfl)
theorem dX4_rule_23 : decode cX4_rule 23 = .ok (.aload_n 0, 1) := dk_42 (dk_at dksX4_rule_0 23 rfl rfl)
theorem dX4_rule_24 : decode cX4_rule 24 = .ok (.getfield 156, 3) := dk_180 0 156 (dk_at dksX4_rule_1 0 rfl rfl)
theorem dX4_rule_27 : decode cX4_rule 27 = .ok (.iconst 0, 1) := dk_3 (dk_at dksX4_rule_1 3 rfl rfl)
theorem dX4_rule_28 : decode cX4_rule 28 = .ok (.iastore, 1) := dk_79 (dk_at dksX4_rule_1 4 rfl rfl)
theorem dX4_rule_29 : decode cX4_rule 29 = .ok (.aload_n 0, 1) := dk_42 (dk_at dksX4_rule_1 5 rfl rfl)
theorem dX4_rule_30 : decode cX4_rule 30 = .ok (.invokevirtual 273, 3) := dk_182 1 17 (dk_at dksX4_rule_1 6 rfl rfl)
theorem dX4_rule_33 : decode cX4_rule 33 = .ok (.ifCond .ne 11, 3) := dk_154 0 11 (dk_at dksX4_rule_1 9 rfl rfl)
theorem dX4_rule_36 : decode cX4_rule 36 = .ok (.bipush (-2), 2) := dk_16 254 (dk_at dksX4_rule_1 12 rfl rfl)
theorem dX4_rule_38 : decode cX4_rule 38 = .ok (.aload_n 0, 1) := dk_42 (dk_at dksX4_rule_1 14 rfl rfl)
theorem dX4_rule_39 : decode cX4_rule 39 = .ok (.getfield 97, 3) := dk_180 0 97 (dk_at dksX4_rule_1 15 rfl rfl)
theorem dX4_rule_42 : decode cX4_rule 42 = .ok (.isub, 1) := dk_100 (dk_at dksX4_rule_1 18 rfl rfl)
theorem dX4_rule_43 : decode cX4_rule 43 = .ok (.ireturn, 1) := dk_172 (dk_at dksX4_rule_1 19 rfl rfl)
theorem dX4_rule_44 : decode cX4_rule 44 = .ok (.aload_n 0, 1) := dk_42 (dk_at dksX4_rule_1 20 rfl rfl)
theorem dX4_rule_45 : decode cX4_rule 45 = .ok (.dup, 1) := dk_89 (dk_at dksX4_rule_1 21 rfl rfl)
theorem dX4_rule_46 : decode cX4_rule 46 = .ok (.getfield 270, 3) := dk_180 1 14 (dk_at dksX4_rule_2 0 rfl rfl)
theorem dX4_rule_49 : decode cX4_rule 49 = .ok (.iconst 1, 1) := dk_4 (dk_at dksX4_rule_2 3 rfl rfl)
theorem dX4_rule_50 : decode cX4_rule 50 = .ok (.iadd, 1) := dk_96 (dk_at dksX4_rule_2 4 rfl rfl)
theorem dX4_rule_51 : decode cX4_rule 51 = .ok (.putfield 270, 3) := dk_181 1 14 (dk_at dksX4_rule_2 5 rfl rfl)
theorem dX4_rule_54 : decode cX4_rule 54 = .ok (.aload_n 0, 1) := dk_42 (dk_at dksX4_rule_2 8 rfl rfl)
theorem dX4_rule_55 : decode cX4_rule 55 = .ok (.getfield 270, 3) := dk_180 1 14 (dk_at dksX4_rule_2 9 rfl rfl)
theorem dX4_rule_58 : decode cX4_rule 58 = .ok (.iconst 1, 1) := dk_4 (dk_at dksX4_rule_2 12 rfl rfl)
theorem dX4_rule_59 : decode cX4_rule 59 = .ok (.isub, 1) := dk_100 (dk_at dksX4_rule_2 13 rfl rfl)
theorem dX4_rule_60 : decode cX4_rule 60 = .ok (.ireturn, 1) := dk_172 (dk_at dksX4_rule_2 14 rfl rfl)
abbrev cX4_readsAll : ByteArray := prog_20_method_39_code
def yX4_readsAll : MethodName := ⟨RX4, "readsAll", "()Z"⟩
def dkwX4_readsAll_4 : List UInt8 := [181, 0, 90, 42, 180, 0, 97, 154, 0, 7, 4, 167, 0, 4, 3, 172]
abbrev dktX4_readsAll_4 : List UInt8 := dkwX4_readsAll_4 ++ []
def dkwX4_readsAll_3 : List UInt8 := [153, 0, 21, 42, 182, 0, 103, 2, 159, 0, 13, 42, 3, 42, 180, 0, 100, 182, 0, 121, 87, 42, 3]
abbrev dktX4_readsAll_3 : List UInt8 := dkwX4_readsAll_3 ++ dktX4_readsAll_4
def dkwX4_readsAll_2 : List UInt8 := [160, 0, 21, 42, 89, 180, 0, 100, 4, 96, 181, 0, 100, 42, 182, 1, 11, 60, 167, 255, 228, 27]
abbrev dktX4_readsAll_2 : List UInt8 := dkwX4_readsAll_2 ++ dktX4_readsAll_3
def dkwX4_readsAll_1 : List UInt8 := [181, 0, 97, 42, 3, 181, 0, 159, 42, 182, 1, 11, 60, 27, 153, 0, 30, 42, 182, 0, 103, 16, 59]
abbrev dktX4_readsAll_1 : List UInt8 := dkwX4_readsAll_1 ++ dktX4_readsAll_2
def dkwX4_readsAll_0 : List UInt8 := [42, 180, 0, 17, 42, 180, 0, 156, 3, 79, 42, 3, 181, 1, 2, 42, 3, 181, 0, 100, 42, 3]
abbrev dktX4_readsAll_0 : List UInt8 := dkwX4_readsAll_0 ++ dktX4_readsAll_1
theorem dksX4_readsAll_0 : cX4_readsAll.data.toList.drop 0 = dktX4_readsAll_0 := by decide +kernel
theorem dksX4_readsAll_1 : cX4_readsAll.data.toList.drop 22 = dktX4_readsAll_1 := dk_seg dksX4_readsAll_0 22 rfl rfl
theorem dksX4_readsAll_2 : cX4_readsAll.data.toList.drop 45 = dktX4_readsAll_2 := dk_seg dksX4_readsAll_1 23 rfl rfl
theorem dksX4_readsAll_3 : cX4_readsAll.data.toList.drop 67 = dktX4_readsAll_3 := dk_seg dksX4_readsAll_2 22 rfl rfl
theorem dksX4_readsAll_4 : cX4_readsAll.data.toList.drop 90 = dktX4_readsAll_4 := dk_seg dksX4_readsAll_3 23 rfl rfl
theorem dX4_readsAll_0 : decode cX4_readsAll 0 = .ok (.aload_n 0, 1) := dk_42 (dk_at dksX4_readsAll_0 0 rfl rfl)
theorem dX4_readsAll_1 : decode cX4_readsAll 1 = .ok (.getfield 17, 3) := dk_180 0 17 (dk_at dksX4_readsAll_0 1 rfl rfl)
theorem dX4_readsAll_4 : decode cX4_readsAll 4 = .ok (.aload_n 0, 1) := dk_42 (dk_at dksX4_readsAll_0 4 rfl rfl)
theorem dX4_readsAll_5 : decode cX4_readsAll 5 = .ok (.getfield 156, 3) := dk_180 0 156 (dk_at dksX4_readsAll_0 5 rfl rfl)
theorem dX4_readsAll_8 : decode cX4_readsAll 8 = .ok (.iconst 0, 1) := dk_3 (dk_at dksX4_readsAll_0 8 rfl rfl)
theorem dX4_readsAll_9 : decode cX4_readsAll 9 = .ok (.iastore, 1) := dk_79 (dk_at dksX4_readsAll_0 9 rfl rfl)
theorem dX4_readsAll_10 : decode cX4_readsAll 10 = .ok (.aload_n 0, 1) := dk_42 (dk_at dksX4_readsAll_0 10 rfl rfl)
theorem dX4_readsAll_11 : decode cX4_readsAll 11 = .ok (.iconst 0, 1) := dk_3 (dk_at dksX4_readsAll_0 11 rfl rfl)
theorem dX4_readsAll_12 : decode cX4_readsAll 12 = .ok (.putfield 258, 3) := dk_181 1 2 (dk_at dksX4_readsAll_0 12 rfl rfl)
theorem dX4_readsAll_15 : decode cX4_readsAll 15 = .ok (.aload_n 0, 1) := dk_42 (dk_at dksX4_readsAll_0 15 rfl rfl)
theorem dX4_readsAll_16 : decode cX4_readsAll 16 = .ok (.iconst 0, 1) := dk_3 (dk_at dksX4_readsAll_0 16 rfl rfl)
theorem dX4_readsAll_17 : decode cX4_readsAll 17 = .ok (.putfield 100, 3) := dk_181 0 100 (dk_at dksX4_readsAll_0 17 rfl rfl)
theorem dX4_readsAll_20 : decode cX4_readsAll 20 = .ok (.aload_n 0, 1) := dk_42 (dk_at dksX4_readsAll_0 20 rfl rfl)
theorem dX4_readsAll_21 : decode cX4_readsAll 21 = .ok (.iconst 0, 1) := dk_3 (dk_at dksX4_readsAll_0 21 rfl rfl)
theorem dX4_readsAll_22 : decode cX4_readsAll 22 = .ok (.putfield 97, 3) := dk_181 0 97 (dk_at dksX4_readsAll_1 0 rfl rfl)
theorem dX4_readsAll_25 : decode cX4_readsAll 25 = .ok (.aload_n 0, 1) := dk_42 (dk_at dksX4_readsAll_1 3 rfl rfl)
theorem dX4_readsAll_26 : decode cX4_readsAll 26 = .ok (.iconst 0, 1) := dk_3 (dk_at dksX4_readsAll_1 4 rfl rfl)
theorem dX4_readsAll_27 : decode cX4_readsAll 27 = .ok (.putfield 159, 3) := dk_181 0 159 (dk_at dksX4_readsAll_1 5 rfl rfl)
theorem dX4_readsAll_30 : decode cX4_readsAll 30 = .ok (.aload_n 0, 1) := dk_42 (dk_at dksX4_readsAll_1 8 rfl rfl)
theorem dX4_readsAll_31 : decode cX4_readsAll 31 = .ok (.invokevirtual 267, 3) := dk_182 1 11 (dk_at dksX4_readsAll_1 9 rfl rfl)
theorem dX4_readsAll_34 : decode cX4_readsAll 34 = .ok (.istore_n 1, 1) := dk_60 (dk_at dksX4_readsAll_1 12 rfl rfl)
theorem dX4_readsAll_35 : decode cX4_readsAll 35 = .ok (.iload_n 1, 1) := dk_27 (dk_at dksX4_readsAll_1 13 rfl rfl)
theorem dX4_readsAll_36 : decode cX4_readsAll 36 = .ok (.ifCond .eq 30, 3) := dk_153 0 30 (dk_at dksX4_readsAll_1 14 rfl rfl)
theorem dX4_readsAll_39 : decode cX4_readsAll 39 = .ok (.aload_n 0, 1) := dk_42 (dk_at dksX4_readsAll_1 17 rfl rfl)
theorem dX4_readsAll_40 : decode cX4_readsAll 40 = .ok (.invokevirtual 103, 3) := dk_182 0 103 (dk_at dksX4_readsAll_1 18 rfl rfl)
theorem dX4_readsAll_43 : decode cX4_readsAll 43 = .ok (.bipush 59, 2) := dk_16 59 (dk_at dksX4_readsAll_1 21 rfl rfl)
theorem dX4_readsAll_45 : decode cX4_readsAll 45 = .ok (.if_icmp .ne 21, 3) := dk_160 0 21 (dk_at dksX4_readsAll_2 0 rfl rfl)
theorem dX4_readsAll_48 : decode cX4_readsAll 48 = .ok (.aload_n 0, 1) := dk_42 (dk_at dksX4_readsAll_2 3 rfl rfl)
theorem dX4_readsAll_49 : decode cX4_readsAll 49 = .ok (.dup, 1) := dk_89 (dk_at dksX4_readsAll_2 4 rfl rfl)
theorem dX4_readsAll_50 : decode cX4_readsAll 50 = .ok (.getfield 100, 3) := dk_180 0 100 (dk_at dksX4_readsAll_2 5 rfl rfl)
theorem dX4_readsAll_53 : decode cX4_readsAll 53 = .ok (.iconst 1, 1) := dk_4 (dk_at dksX4_readsAll_2 8 rfl rfl)
theorem dX4_readsAll_54 : decode cX4_readsAll 54 = .ok (.iadd, 1) := dk_96 (dk_at dksX4_readsAll_2 9 rfl rfl)
theorem dX4_readsAll_55 : decode cX4_readsAll 55 = .ok (.putfield 100, 3) := dk_181 0 100 (dk_at dksX4_readsAll_2 10 rfl rfl)
theorem dX4_readsAll_58 : decode cX4_readsAll 58 = .ok (.aload_n 0, 1) := dk_42 (dk_at dksX4_readsAll_2 13 rfl rfl)
theorem dX4_readsAll_59 : decode cX4_readsAll 59 = .ok (.invokevirtual 267, 3) := dk_182 1 11 (dk_at dksX4_readsAll_2 14 rfl rfl)
theorem dX4_readsAll_62 : decode cX4_readsAll 62 = .ok (.istore_n 1, 1) := dk_60 (dk_at dksX4_readsAll_2 17 rfl rfl)
theorem dX4_readsAll_63 : decode cX4_readsAll 63 = .ok (.goto (-28), 3) := dk_167 255 228 (dk_at dksX4_readsAll_2 18 rfl rfl)
theorem dX4_readsAll_66 : decode cX4_readsAll 66 = .ok (.iload_n 1, 1) := dk_27 (dk_at dksX4_readsAll_2 21 rfl rfl)
theorem dX4_readsAll_67 : decode cX4_readsAll 67 = .ok (.ifCond .eq 21, 3) := dk_153 0 21 (dk_at dksX4_readsAll_3 0 rfl rfl)
theorem dX4_readsAll_70 : decode cX4_readsAll 70 = .ok (.aload_n 0, 1) := dk_42 (dk_at dksX4_readsAll_3 3 rfl rfl)
theorem dX4_readsAll_71 : decode cX4_readsAll 71 = .ok (.invokevirtual 103, 3) := dk_182 0 103 (dk_at dksX4_readsAll_3 4 rfl rfl)
theorem dX4_readsAll_74 : decode cX4_readsAll 74 = .ok (.iconst (-1), 1) := dk_2 (dk_at dksX4_readsAll_3 7 rfl rfl)
theorem dX4_readsAll_75 : decode cX4_readsAll 75 = .ok (.if_icmp .eq 13, 3) := dk_159 0 13 (dk_at dksX4_readsAll_3 8 rfl rfl)
theorem dX4_readsAll_78 : decode cX4_readsAll 78 = .ok (.aload_n 0, 1) := dk_42 (dk_at dksX4_readsAll_3 11 rfl rfl)
theorem dX4_readsAll_79 : decode cX4_readsAll 79 = .ok (.iconst 0, 1) := dk_3 (dk_at dksX4_readsAll_3 12 rfl rfl)
theorem dX4_readsAll_80 : decode cX4_readsAll 80 = .ok (.aload_n 0, 1) := dk_42 (dk_at dksX4_readsAll_3 13 rfl rfl)
theorem dX4_readsAll_81 : decode cX4_readsAll 81 = .ok (.getfield 100, 3) := dk_180 0 100 (dk_at dksX4_readsAll_3 14 rfl rfl)
theorem dX4_readsAll_84 : decode cX4_readsAll 84 = .ok (.invokevirtual 121, 3) := dk_182 0 121 (dk_at dksX4_readsAll_3 17 rfl rfl)
theorem dX4_readsAll_87 : decode cX4_readsAll 87 = .ok (.pop, 1) := dk_87 (dk_at dksX4_readsAll_3 20 rfl rfl)
theorem dX4_readsAll_88 : decode cX4_readsAll 88 = .ok (.aload_n 0, 1) := dk_42 (dk_at dksX4_readsAll_3 21 rfl rfl)
theorem dX4_readsAll_89 : decode cX4_readsAll 89 = .ok (.iconst 0, 1) := dk_3 (dk_at dksX4_readsAll_3 22 rfl rfl)
theorem dX4_readsAll_90 : decode cX4_readsAll 90 = .ok (.putfield 90, 3) := dk_181 0 90 (dk_at dksX4_readsAll_4 0 rfl rfl)
theorem dX4_readsAll_93 : decode cX4_readsAll 93 = .ok (.aload_n 0, 1) := dk_42 (dk_at dksX4_readsAll_4 3 rfl rfl)
theorem dX4_readsAll_94 : decode cX4_readsAll 94 = .ok (.getfield 97, 3) := dk_180 0 97 (dk_at dksX4_readsAll_4 4 rfl rfl)
theorem dX4_readsAll_97 : decode cX4_readsAll 97 = .ok (.ifCond .ne 7, 3) := dk_154 0 7 (dk_at dksX4_readsAll_4 7 rfl rfl)
theorem dX4_readsAll_100 : decode cX4_readsAll 100 = .ok (.iconst 1, 1) := dk_4 (dk_at dksX4_readsAll_4 10 rfl rfl)
theorem dX4_readsAll_101 : decode cX4_readsAll 101 = .ok (.goto 4, 3) := dk_167 0 4 (dk_at dksX4_readsAll_4 11 rfl rfl)
theorem dX4_readsAll_104 : decode cX4_readsAll 104 = .ok (.iconst 0, 1) := dk_3 (dk_at dksX4_readsAll_4 14 rfl rfl)
theorem dX4_readsAll_105 : decode cX4_readsAll 105 = .ok (.ireturn, 1) := dk_172 (dk_at dksX4_readsAll_4 15 rfl rfl)
abbrev cX4_clauseHere : ByteArray := prog_20_method_38_code
def yX4_clauseHere : MethodName := ⟨RX4, "clauseHere", "()Z"⟩
def dkwX4_clauseHere_4 : List UInt8 := [153, 0, 11, 42, 27, 182, 1, 5, 167, 0, 7, 42, 182, 1, 8, 172]
abbrev dktX4_clauseHere_4 : List UInt8 := dkwX4_clauseHere_4 ++ []
def dkwX4_clauseHere_3 : List UInt8 := [16, 12, 160, 0, 10, 42, 7, 27, 182, 0, 121, 172, 42, 89, 180, 1, 2, 4, 96, 181, 1, 2, 28]
abbrev dktX4_clauseHere_3 : List UInt8 := dkwX4_clauseHere_3 ++ dktX4_clauseHere_4
def dkwX4_clauseHere_2 : List UInt8 := [154, 0, 10, 42, 3, 27, 182, 0, 121, 172, 42, 180, 1, 2, 28, 153, 0, 8, 16, 40, 167, 0, 5]
abbrev dktX4_clauseHere_2 : List UInt8 := dkwX4_clauseHere_2 ++ dktX4_clauseHere_3
def dkwX4_clauseHere_1 : List UInt8 := [61, 28, 153, 0, 13, 42, 182, 0, 253, 154, 0, 23, 167, 0, 13, 42, 20, 1, 0, 182, 0, 111]
abbrev dktX4_clauseHere_1 : List UInt8 := dkwX4_clauseHere_1 ++ dktX4_clauseHere_2
def dkwX4_clauseHere_0 : List UInt8 := [42, 182, 0, 103, 87, 42, 180, 0, 100, 60, 42, 180, 0, 156, 16, 6, 160, 0, 7, 4, 167, 0, 4, 3]
abbrev dktX4_clauseHere_0 : List UInt8 := dkwX4_clauseHere_0 ++ dktX4_clauseHere_1
theorem dksX4_clauseHere_0 : cX4_clauseHere.data.toList.drop 0 = dktX4_clauseHere_0 := by decide +kernel
theorem dksX4_clauseHere_1 : cX4_clauseHere.data.toList.drop 24 = dktX4_clauseHere_1 := dk_seg dksX4_clauseHere_0 24 rfl rfl
theorem dksX4_clauseHere_2 : cX4_clauseHere.data.toList.drop 46 = dktX4_clauseHere_2 := dk_seg dksX4_clauseHere_1 22 rfl rfl
theorem dksX4_clauseHere_3 : cX4_clauseHere.data.toList.drop 69 = dktX4_clauseHere_3 := dk_seg dksX4_clauseHere_2 23 rfl rfl
theorem dksX4_clauseHere_4 : cX4_clauseHere.data.toList.drop 92 = dktX4_clauseHere_4 := dk_seg dksX4_clauseHere_3 23 rfl rfl
theorem dX4_clauseHere_0 : decode cX4_clauseHere 0 = .ok (.aload_n 0, 1) := dk_42 (dk_at dksX4_clauseHere_0 0 rfl rfl)
theorem dX4_clauseHere_1 : decode cX4_clauseHere 1 = .ok (.invokevirtual 103, 3) := dk_182 0 103 (dk_at dksX4_clauseHere_0 1 rfl rfl)
theorem dX4_clauseHere_4 : decode cX4_clauseHere 4 = .ok (.pop, 1) := dk_87 (dk_at dksX4_clauseHere_0 4 rfl rfl)
theorem dX4_clauseHere_5 : decode cX4_clauseHere 5 = .ok (.aload_n 0, 1) := dk_42 (dk_at dksX4_clauseHere_0 5 rfl rfl)
theorem dX4_clauseHere_6 : decode cX4_clauseHere 6 = .ok (.getfield 100, 3) := dk_180 0 100 (dk_at dksX4_clauseHere_0 6 rfl rfl)
theorem dX4_clauseHere_9 : decode cX4_clauseHere 9 = .ok (.istore_n 1, 1) := dk_60 (dk_at dksX4_clauseHere_0 9 rfl rfl)
theorem dX4_clauseHere_10 : decode cX4_clauseHere 10 = .ok (.aload_n 0, 1) := dk_42 (dk_at dksX4_clauseHere_0 10 rfl rfl)
theorem dX4_clauseHere_11 : decode cX4_clauseHere 11 = .ok (.getfield 156, 3) := dk_180 0 156 (dk_at dksX4_clauseHere_0 11 rfl rfl)
theorem dX4_clauseHere_14 : decode cX4_clauseHere 14 = .ok (.bipush 6, 2) := dk_16 6 (dk_at dksX4_clauseHere_0 14 rfl rfl)
theorem dX4_clauseHere_16 : decode cX4_clauseHere 16 = .ok (.if_icmp .ne 7, 3) := dk_160 0 7 (dk_at dksX4_clauseHere_0 16 rfl rfl)
theorem dX4_clauseHere_19 : decode cX4_clauseHere 19 = .ok (.iconst 1, 1) := dk_4 (dk_at dksX4_clauseHere_0 19 rfl rfl)
theorem dX4_clauseHere_20 : decode cX4_clauseHere 20 = .ok (.goto 4, 3) := dk_167 0 4 (dk_at dksX4_clauseHere_0 20 rfl rfl)
theorem dX4_clauseHere_23 : decode cX4_clauseHere 23 = .ok (.iconst 0, 1) := dk_3 (dk_at dksX4_clauseHere_0 23 rfl rfl)
theorem dX4_clauseHere_24 : decode cX4_clauseHere 24 = .ok (.istore_n 2, 1) := dk_61 (dk_at dksX4_clauseHere_1 0 rfl rfl)
theorem dX4_clauseHere_25 : decode cX4_clauseHere 25 = .ok (.iload_n 2, 1) := dk_28 (dk_at dksX4_clauseHere_1 1 rfl rfl)
theorem dX4_clauseHere_26 : decode cX4_clauseHere 26 = .ok (.ifCond .eq 13, 3) := dk_153 0 13 (dk_at dksX4_clauseHere_1 2 rfl rfl)
theorem dX4_clauseHere_29 : decode cX4_clauseHere 29 = .ok (.aload_n 0, 1) := dk_42 (dk_at dksX4_clauseHere_1 5 rfl rfl)
theorem dX4_clauseHere_30 : decode cX4_clauseHere 30 = .ok (.invokevirtual 253, 3) := dk_182 0 253 (dk_at dksX4_clauseHere_1 6 rfl rfl)
theorem dX4_clauseHere_33 : decode cX4_clauseHere 33 = .ok (.ifCond .ne 23, 3) := dk_154 0 23 (dk_at dksX4_clauseHere_1 9 rfl rfl)
theorem dX4_clauseHere_36 : decode cX4_clauseHere 36 = .ok (.goto 13, 3) := dk_167 0 13 (dk_at dksX4_clauseHere_1 12 rfl rfl)
theorem dX4_clauseHere_39 : decode cX4_clauseHere 39 = .ok (.aload_n 0, 1) := dk_42 (dk_at dksX4_clauseHere_1 15 rfl rfl)
theorem dX4_clauseHere_40 : decode cX4_clauseHere 40 = .ok (.ldc2_w 256, 3) := dk_20 1 0 (dk_at dksX4_clauseHere_1 16 rfl rfl)
theorem dX4_clauseHere_43 : decode cX4_clauseHere 43 = .ok (.invokevirtual 111, 3) := dk_182 0 111 (dk_at dksX4_clauseHere_1 19 rfl rfl)
theorem dX4_clauseHere_46 : decode cX4_clauseHere 46 = .ok (.ifCond .ne 10, 3) := dk_154 0 10 (dk_at dksX4_clauseHere_2 0 rfl rfl)
theorem dX4_clauseHere_49 : decode cX4_clauseHere 49 = .ok (.aload_n 0, 1) := dk_42 (dk_at dksX4_clauseHere_2 3 rfl rfl)
theorem dX4_clauseHere_50 : decode cX4_clauseHere 50 = .ok (.iconst 0, 1) := dk_3 (dk_at dksX4_clauseHere_2 4 rfl rfl)
theorem dX4_clauseHere_51 : decode cX4_clauseHere 51 = .ok (.iload_n 1, 1) := dk_27 (dk_at dksX4_clauseHere_2 5 rfl rfl)
theorem dX4_clauseHere_52 : decode cX4_clauseHere 52 = .ok (.invokevirtual 121, 3) := dk_182 0 121 (dk_at dksX4_clauseHere_2 6 rfl rfl)
theorem dX4_clauseHere_55 : decode cX4_clauseHere 55 = .ok (.ireturn, 1) := dk_172 (dk_at dksX4_clauseHere_2 9 rfl rfl)
theorem dX4_clauseHere_56 : decode cX4_clauseHere 56 = .ok (.aload_n 0, 1) := dk_42 (dk_at dksX4_clauseHere_2 10 rfl rfl)
theorem dX4_clauseHere_57 : decode cX4_clauseHere 57 = .ok (.getfield 258, 3) := dk_180 1 2 (dk_at dksX4_clauseHere_2 11 rfl rfl)
theorem dX4_clauseHere_60 : decode cX4_clauseHere 60 = .ok (.iload_n 2, 1) := dk_28 (dk_at dksX4_clauseHere_2 14 rfl rfl)
theorem dX4_clauseHere_61 : decode cX4_clauseHere 61 = .ok (.ifCond .eq 8, 3) := dk_153 0 8 (dk_at dksX4_clauseHere_2 15 rfl rfl)
theorem dX4_clauseHere_64 : decode cX4_clauseHere 64 = .ok (.bipush 40, 2) := dk_16 40 (dk_at dksX4_clauseHere_2 18 rfl rfl)
theorem dX4_clauseHere_66 : decode cX4_clauseHere 66 = .ok (.goto 5, 3) := dk_167 0 5 (dk_at dksX4_clauseHere_2 20 rfl rfl)
theorem dX4_clauseHere_69 : decode cX4_clauseHere 69 = .ok (.bipush 12, 2) := dk_16 12 (dk_at dksX4_clauseHere_3 0 rfl rfl)
theorem dX4_clauseHere_71 : decode cX4_clauseHere 71 = .ok (.if_icmp .ne 10, 3) := dk_160 0 10 (dk_at dksX4_clauseHere_3 2 rfl rfl)
theorem dX4_clauseHere_74 : decode cX4_clauseHere 74 = .ok (.aload_n 0, 1) := dk_42 (dk_at dksX4_clauseHere_3 5 rfl rfl)
theorem dX4_clauseHere_75 : decode cX4_clauseHere 75 = .ok (.iconst 4, 1) := dk_7 (dk_at dksX4_clauseHere_3 6 rfl rfl)
theorem dX4_clauseHere_76 : decode cX4_clauseHere 76 = .ok (.iload_n 1, 1) := dk_27 (dk_at dksX4_clauseHere_3 7 rfl rfl)
theorem dX4_clauseHere_77 : decode cX4_clauseHere 77 = .ok (.invokevirtual 121, 3) := dk_182 0 121 (dk_at dksX4_clauseHere_3 8 rfl rfl)
theorem dX4_clauseHere_80 : decode cX4_clauseHere 80 = .ok (.ireturn, 1) := dk_172 (dk_at dksX4_clauseHere_3 11 rfl rfl)
theorem dX4_clauseHere_81 : decode cX4_clauseHere 81 = .ok (.aload_n 0, 1) := dk_42 (dk_at dksX4_clauseHere_3 12 rfl rfl)
theorem dX4_clauseHere_82 : decode cX4_clauseHere 82 = .ok (.dup, 1) := dk_89 (dk_at dksX4_clauseHere_3 13 rfl rfl)
theorem dX4_clauseHere_83 : decode cX4_clauseHere 83 = .ok (.getfield 258, 3) := dk_180 1 2 (dk_at dksX4_clauseHere_3 14 rfl rfl)
theorem dX4_clauseHere_86 : decode cX4_clauseHere 86 = .ok (.iconst 1, 1) := dk_4 (dk_at dksX4_clauseHere_3 17 rfl rfl)
theorem dX4_clauseHere_87 : decode cX4_clauseHere 87 = .ok (.iadd, 1) := dk_96 (dk_at dksX4_clauseHere_3 18 rfl rfl)
theorem dX4_clauseHere_88 : decode cX4_clauseHere 88 = .ok (.putfield 258, 3) := dk_181 1 2 (dk_at dksX4_clauseHere_3 19 rfl rfl)
theorem dX4_clauseHere_91 : decode cX4_clauseHere 91 = .ok (.iload_n 2, 1) := dk_28 (dk_at dksX4_clauseHere_3 22 rfl rfl)
theorem dX4_clauseHere_92 : decode cX4_clauseHere 92 = .ok (.ifCond .eq 11, 3) := dk_153 0 11 (dk_at dksX4_clauseHere_4 0 rfl rfl)
theorem dX4_clauseHere_95 : decode cX4_clauseHere 95 = .ok (.aload_n 0, 1) := dk_42 (dk_at dksX4_clauseHere_4 3 rfl rfl)
theorem dX4_clauseHere_96 : decode cX4_clauseHere 96 = .ok (.iload_n 1, 1) := dk_27 (dk_at dksX4_clauseHere_4 4 rfl rfl)
theorem dX4_clauseHere_97 : decode cX4_clauseHere 97 = .ok (.invokevirtual 261, 3) := dk_182 1 5 (dk_at dksX4_clauseHere_4 5 rfl rfl)
theorem dX4_clauseHere_100 : decode cX4_clauseHere 100 = .ok (.goto 7, 3) := dk_167 0 7 (dk_at dksX4_clauseHere_4 8 rfl rfl)
theorem dX4_clauseHere_103 : decode cX4_clauseHere 103 = .ok (.aload_n 0, 1) := dk_42 (dk_at dksX4_clauseHere_4 11 rfl rfl)
theorem dX4_clauseHere_104 : decode cX4_clauseHere 104 = .ok (.invokevirtual 264, 3) := dk_182 1 8 (dk_at dksX4_clauseHere_4 12 rfl rfl)
theorem dX4_clauseHere_107 : decode cX4_clauseHere 107 = .ok (.ireturn, 1) := dk_172 (dk_at dksX4_clauseHere_4 15 rfl rfl)
abbrev cX4_see : ByteArray := prog_20_method_8_code
def yX4_see : MethodName := ⟨RX4, "see", "()I"⟩
def dkwX4_see_2 : List UInt8 := [162, 0, 19, 42, 180, 0, 7, 42, 180, 0, 100, 51, 17, 0, 255, 126, 167, 0, 4, 2, 172]
abbrev dktX4_see_2 : List UInt8 := dkwX4_see_2 ++ []
def dkwX4_see_1 : List UInt8 := [160, 0, 16, 42, 89, 180, 0, 100, 4, 96, 181, 0, 100, 167, 255, 221, 42, 180, 0, 100, 42, 180, 0, 90]
abbrev dktX4_see_1 : List UInt8 := dkwX4_see_1 ++ dktX4_see_2
def dkwX4_see_0 : List UInt8 := [42, 180, 0, 100, 42, 180, 0, 90, 162, 0, 30, 42, 180, 0, 7, 42, 180, 0, 100, 51, 16, 32]
abbrev dktX4_see_0 : List UInt8 := dkwX4_see_0 ++ dktX4_see_1
theorem dksX4_see_0 : cX4_see.data.toList.drop 0 = dktX4_see_0 := by decide +kernel
theorem dksX4_see_1 : cX4_see.data.toList.drop 22 = dktX4_see_1 := dk_seg dksX4_see_0 22 rfl rfl
theorem dksX4_see_2 : cX4_see.data.toList.drop 46 = dktX4_see_2 := dk_seg dksX4_see_1 24 rfl rfl
theorem dX4_see_0 : decode cX4_see 0 = .ok (.aload_n 0, 1) := dk_42 (dk_at dksX4_see_0 0 rfl rfl)
theorem dX4_see_1 : decode cX4_see 1 = .ok (.getfield 100, 3) := dk_180 0 100 (dk_at dksX4_see_0 1 rfl rfl)
theorem dX4_see_4 : decode cX4_see 4 = .ok (.aload_n 0, 1) := dk_42 (dk_at dksX4_see_0 4 rfl rfl)
theorem dX4_see_5 : decode cX4_see 5 = .ok (.getfield 90, 3) := dk_180 0 90 (dk_at dksX4_see_0 5 rfl rfl)
theorem dX4_see_8 : decode cX4_see 8 = .ok (.if_icmp .ge 30, 3) := dk_162 0 30 (dk_at dksX4_see_0 8 rfl rfl)
theorem dX4_see_11 : decode cX4_see 11 = .ok (.aload_n 0, 1) := dk_42 (dk_at dksX4_see_0 11 rfl rfl)
theorem dX4_see_12 : decode cX4_see 12 = .ok (.getfield 7, 3) := dk_180 0 7 (dk_at dksX4_see_0 12 rfl rfl)
theorem dX4_see_15 : decode cX4_see 15 = .ok (.aload_n 0, 1) := dk_42 (dk_at dksX4_see_0 15 rfl rfl)
theorem dX4_see_16 : decode cX4_see 16 = .ok (.getfield 100, 3) := dk_180 0 100 (dk_at dksX4_see_0 16 rfl rfl)
theorem dX4_see_19 : decode cX4_see 19 = .ok (.baload, 1) := dk_51 (dk_at dksX4_see_0 19 rfl rfl)
theorem dX4_see_20 : decode cX4_see 20 = .ok (.bipush 32, 2) := dk_16 32 (dk_at dksX4_see_0 20 rfl rfl)
theorem dX4_see_22 : decode cX4_see 22 = .ok (.if_icmp .ne 16, 3) := dk_160 0 16 (dk_at dksX4_see_1 0 rfl rfl)
theorem dX4_see_25 : decode cX4_see 25 = .ok (.aload_n 0, 1) := dk_42 (dk_at dksX4_see_1 3 rfl rfl)
theorem dX4_see_26 : decode cX4_see 26 = .ok (.dup, 1) := dk_89 (dk_at dksX4_see_1 4 rfl rfl)
theorem dX4_see_27 : decode cX4_see 27 = .ok (.getfield 100, 3) := dk_180 0 100 (dk_at dksX4_see_1 5 rfl rfl)
theorem dX4_see_30 : decode cX4_see 30 = .ok (.iconst 1, 1) := dk_4 (dk_at dksX4_see_1 8 rfl rfl)
theorem dX4_see_31 : decode cX4_see 31 = .ok (.iadd, 1) := dk_96 (dk_at dksX4_see_1 9 rfl rfl)
theorem dX4_see_32 : decode cX4_see 32 = .ok (.putfield 100, 3) := dk_181 0 100 (dk_at dksX4_see_1 10 rfl rfl)
theorem dX4_see_35 : decode cX4_see 35 = .ok (.goto (-35), 3) := dk_167 255 221 (dk_at dksX4_see_1 13 rfl rfl)
theorem dX4_see_38 : decode cX4_see 38 = .ok (.aload_n 0, 1) := dk_42 (dk_at dksX4_see_1 16 rfl rfl)
theorem dX4_see_39 : decode cX4_see 39 = .ok (.getfield 100, 3) := dk_180 0 100 (dk_at dksX4_see_1 17 rfl rfl)
theorem dX4_see_42 : decode cX4_see 42 = .ok (.aload_n 0, 1) := dk_42 (dk_at dksX4_see_1 20 rfl rfl)
theorem dX4_see_43 : decode cX4_see 43 = .ok (.getfield 90, 3) := dk_180 0 90 (dk_at dksX4_see_1 21 rfl rfl)
theorem dX4_see_46 : decode cX4_see 46 = .ok (.if_icmp .ge 19, 3) := dk_162 0 19 (dk_at dksX4_see_2 0 rfl rfl)
theorem dX4_see_49 : decode cX4_see 49 = .ok (.aload_n 0, 1) := dk_42 (dk_at dksX4_see_2 3 rfl rfl)
theorem dX4_see_50 : decode cX4_see 50 = .ok (.getfield 7, 3) := dk_180 0 7 (dk_at dksX4_see_2 4 rfl rfl)
theorem dX4_see_53 : decode cX4_see 53 = .ok (.aload_n 0, 1) := dk_42 (dk_at dksX4_see_2 7 rfl rfl)
theorem dX4_see_54 : decode cX4_see 54 = .ok (.getfield 100, 3) := dk_180 0 100 (dk_at dksX4_see_2 8 rfl rfl)
theorem dX4_see_57 : decode cX4_see 57 = .ok (.baload, 1) := dk_51 (dk_at dksX4_see_2 11 rfl rfl)
theorem dX4_see_58 : decode cX4_see 58 = .ok (.sipush 255, 3) := dk_17 0 255 (dk_at dksX4_see_2 12 rfl rfl)
theorem dX4_see_61 : decode cX4_see 61 = .ok (.iand, 1) := dk_126 (dk_at dksX4_see_2 15 rfl rfl)
theorem dX4_see_62 : decode cX4_see 62 = .ok (.goto 4, 3) := dk_167 0 4 (dk_at dksX4_see_2 16 rfl rfl)
theorem dX4_see_65 : decode cX4_see 65 = .ok (.iconst (-1), 1) := dk_2 (dk_at dksX4_see_2 19 rfl rfl)
theorem dX4_see_66 : decode cX4_see 66 = .ok (.ireturn, 1) := dk_172 (dk_at dksX4_see_2 20 rfl rfl)
abbrev cX4_isCastleWord : ByteArray := prog_20_method_37_code
def yX4_isCastleWord : MethodName := ⟨RX4, "isCastleWord", "()Z"⟩
def dkwX4_isCastleWord_2 : List UInt8 := [154, 0, 13, 42, 20, 0, 132, 182, 0, 111, 153, 0, 7, 4, 167, 0, 4, 3, 172]
abbrev dktX4_isCastleWord_2 : List UInt8 := dkwX4_isCastleWord_2 ++ []
def dkwX4_isCastleWord_1 : List UInt8 := [182, 0, 111, 154, 0, 33, 42, 20, 0, 245, 182, 0, 111, 154, 0, 23, 42, 20, 0, 146, 182, 0, 111]
abbrev dktX4_isCastleWord_1 : List UInt8 := dkwX4_isCastleWord_1 ++ dktX4_isCastleWord_2
def dkwX4_isCastleWord_0 : List UInt8 := [42, 20, 0, 232, 182, 0, 111, 154, 0, 53, 42, 20, 0, 136, 182, 0, 111, 154, 0, 43, 42, 20, 0, 240]
abbrev dktX4_isCastleWord_0 : List UInt8 := dkwX4_isCastleWord_0 ++ dktX4_isCastleWord_1
theorem dksX4_isCastleWord_0 : cX4_isCastleWord.data.toList.drop 0 = dktX4_isCastleWord_0 := by decide +kernel
theorem dksX4_isCastleWord_1 : cX4_isCastleWord.data.toList.drop 24 = dktX4_isCastleWord_1 := dk_seg dksX4_isCastleWord_0 24 rfl rfl
theorem dksX4_isCastleWord_2 : cX4_isCastleWord.data.toList.drop 47 = dktX4_isCastleWord_2 := dk_seg dksX4_isCastleWord_1 23 rfl rfl
theorem dX4_isCastleWord_0 : decode cX4_isCastleWord 0 = .ok (.aload_n 0, 1) := dk_42 (dk_at dksX4_isCastleWord_0 0 rfl rfl)
theorem dX4_isCastleWord_1 : decode cX4_isCastleWord 1 = .ok (.ldc2_w 232, 3) := dk_20 0 232 (dk_at dksX4_isCastleWord_0 1 rfl rfl)
theorem dX4_isCastleWord_4 : decode cX4_isCastleWord 4 = .ok (.invokevirtual 111, 3) := dk_182 0 111 (dk_at dksX4_isCastleWord_0 4 rfl rfl)
theorem dX4_isCastleWord_7 : decode cX4_isCastleWord 7 = .ok (.ifCond .ne 53, 3) := dk_154 0 53 (dk_at dksX4_isCastleWord_0 7 rfl rfl)
theorem dX4_isCastleWord_10 : decode cX4_isCastleWord 10 = .ok (.aload_n 0, 1) := dk_42 (dk_at dksX4_isCastleWord_0 10 rfl rfl)
theorem dX4_isCastleWord_11 : decode cX4_isCastleWord 11 = .ok (.ldc2_w 136, 3) := dk_20 0 136 (dk_at dksX4_isCastleWord_0 11 rfl rfl)
theorem dX4_isCastleWord_14 : decode cX4_isCastleWord 14 = .ok (.invokevirtual 111, 3) := dk_182 0 111 (dk_at dksX4_isCastleWord_0 14 rfl rfl)
theorem dX4_isCastleWord_17 : decode cX4_isCastleWord 17 = .ok (.ifCond .ne 43, 3) := dk_154 0 43 (dk_at dksX4_isCastleWord_0 17 rfl rfl)
theorem dX4_isCastleWord_20 : decode cX4_isCastleWord 20 = .ok (.aload_n 0, 1) := dk_42 (dk_at dksX4_isCastleWord_0 20 rfl rfl)
theorem dX4_isCastleWord_21 : decode cX4_isCastleWord 21 = .ok (.ldc2_w 240, 3) := dk_20 0 240 (dk_at dksX4_isCastleWord_0 21 rfl rfl)
theorem dX4_isCastleWord_24 : decode cX4_isCastleWord 24 = .ok (.invokevirtual 111, 3) := dk_182 0 111 (dk_at dksX4_isCastleWord_1 0 rfl rfl)
theorem dX4_isCastleWord_27 : decode cX4_isCastleWord 27 = .ok (.ifCond .ne 33, 3) := dk_154 0 33 (dk_at dksX4_isCastleWord_1 3 rfl rfl)
theorem dX4_isCastleWord_30 : decode cX4_isCastleWord 30 = .ok (.aload_n 0, 1) := dk_42 (dk_at dksX4_isCastleWord_1 6 rfl rfl)
theorem dX4_isCastleWord_31 : decode cX4_isCastleWord 31 = .ok (.ldc2_w 245, 3) := dk_20 0 245 (dk_at dksX4_isCastleWord_1 7 rfl rfl)
theorem dX4_isCastleWord_34 : decode cX4_isCastleWord 34 = .ok (.invokevirtual 111, 3) := dk_182 0 111 (dk_at dksX4_isCastleWord_1 10 rfl rfl)
theorem dX4_isCastleWord_37 : decode cX4_isCastleWord 37 = .ok (.ifCond .ne 23, 3) := dk_154 0 23 (dk_at dksX4_isCastleWord_1 13 rfl rfl)
theorem dX4_isCastleWord_40 : decode cX4_isCastleWord 40 = .ok (.aload_n 0, 1) := dk_42 (dk_at dksX4_isCastleWord_1 16 rfl rfl)
theorem dX4_isCastleWord_41 : decode cX4_isCastleWord 41 = .ok (.ldc2_w 146, 3) := dk_20 0 146 (dk_at dksX4_isCastleWord_1 17 rfl rfl)
theorem dX4_isCastleWord_44 : decode cX4_isCastleWord 44 = .ok (.invokevirtual 111, 3) := dk_182 0 111 (dk_at dksX4_isCastleWord_1 20 rfl rfl)
theorem dX4_isCastleWord_47 : decode cX4_isCastleWord 47 = .ok (.ifCond .ne 13, 3) := dk_154 0 13 (dk_at dksX4_isCastleWord_2 0 rfl rfl)
theorem dX4_isCastleWord_50 : decode cX4_isCastleWord 50 = .ok (.aload_n 0, 1) := dk_42 (dk_at dksX4_isCastleWord_2 3 rfl rfl)
theorem dX4_isCastleWord_51 : decode cX4_isCastleWord 51 = .ok (.ldc2_w 132, 3) := dk_20 0 132 (dk_at dksX4_isCastleWord_2 4 rfl rfl)
theorem dX4_isCastleWord_54 : decode cX4_isCastleWord 54 = .ok (.invokevirtual 111, 3) := dk_182 0 111 (dk_at dksX4_isCastleWord_2 7 rfl rfl)
theorem dX4_isCastleWord_57 : decode cX4_isCastleWord 57 = .ok (.ifCond .eq 7, 3) := dk_153 0 7 (dk_at dksX4_isCastleWord_2 10 rfl rfl)
theorem dX4_isCastleWord_60 : decode cX4_isCastleWord 60 = .ok (.iconst 1, 1) := dk_4 (dk_at dksX4_isCastleWord_2 13 rfl rfl)
theorem dX4_isCastleWord_61 : decode cX4_isCastleWord 61 = .ok (.goto 4, 3) := dk_167 0 4 (dk_at dksX4_isCastleWord_2 14 rfl rfl)
theorem dX4_isCastleWord_64 : decode cX4_isCastleWord 64 = .ok (.iconst 0, 1) := dk_3 (dk_at dksX4_isCastleWord_2 17 rfl rfl)
theorem dX4_isCastleWord_65 : decode cX4_isCastleWord 65 = .ok (.ireturn, 1) := dk_172 (dk_at dksX4_isCastleWord_2 18 rfl rfl)
abbrev cX4_isWord : ByteArray := prog_20_method_11_code
def yX4_isWord : MethodName := ⟨RX4, "isWord", "(J)Z"⟩
def dkwX4_isWord_3 : List UInt8 := [154, 0, 7, 4, 167, 0, 4, 3, 172]
abbrev dktX4_isWord_3 : List UInt8 := dkwX4_isWord_3 ++ []
def dkwX4_isWord_2 : List UInt8 := [129, 66, 132, 5, 1, 167, 255, 213, 21, 5, 158, 0, 20, 21, 5, 16, 8, 162, 0, 13, 33, 31, 148]
abbrev dktX4_isWord_2 : List UInt8 := dkwX4_isWord_2 ++ dktX4_isWord_3
def dkwX4_isWord_1 : List UInt8 := [21, 5, 16, 8, 162, 0, 22, 33, 16, 8, 121, 42, 180, 0, 7, 42, 180, 0, 100, 21, 5, 96, 51, 133]
abbrev dktX4_isWord_1 : List UInt8 := dkwX4_isWord_1 ++ dktX4_isWord_2
def dkwX4_isWord_0 : List UInt8 := [42, 182, 0, 103, 87, 9, 66, 3, 54, 5, 42, 42, 180, 0, 100, 21, 5, 96, 182, 0, 107, 153, 0, 35]
abbrev dktX4_isWord_0 : List UInt8 := dkwX4_isWord_0 ++ dktX4_isWord_1
theorem dksX4_isWord_0 : cX4_isWord.data.toList.drop 0 = dktX4_isWord_0 := by decide +kernel
theorem dksX4_isWord_1 : cX4_isWord.data.toList.drop 24 = dktX4_isWord_1 := dk_seg dksX4_isWord_0 24 rfl rfl
theorem dksX4_isWord_2 : cX4_isWord.data.toList.drop 48 = dktX4_isWord_2 := dk_seg dksX4_isWord_1 24 rfl rfl
theorem dksX4_isWord_3 : cX4_isWord.data.toList.drop 71 = dktX4_isWord_3 := dk_seg dksX4_isWord_2 23 rfl rfl
theorem dX4_isWord_0 : decode cX4_isWord 0 = .ok (.aload_n 0, 1) := dk_42 (dk_at dksX4_isWord_0 0 rfl rfl)
theorem dX4_isWord_1 : decode cX4_isWord 1 = .ok (.invokevirtual 103, 3) := dk_182 0 103 (dk_at dksX4_isWord_0 1 rfl rfl)
theorem dX4_isWord_4 : decode cX4_isWord 4 = .ok (.pop, 1) := dk_87 (dk_at dksX4_isWord_0 4 rfl rfl)
theorem dX4_isWord_5 : decode cX4_isWord 5 = .ok (.lconst 0, 1) := dk_9 (dk_at dksX4_isWord_0 5 rfl rfl)
theorem dX4_isWord_6 : decode cX4_isWord 6 = .ok (.lstore_n 3, 1) := dk_66 (dk_at dksX4_isWord_0 6 rfl rfl)
theorem dX4_isWord_7 : decode cX4_isWord 7 = .ok (.iconst 0, 1) := dk_3 (dk_at dksX4_isWord_0 7 rfl rfl)
theorem dX4_isWord_8 : decode cX4_isWord 8 = .ok (.istore 5, 2) := dk_54 5 (dk_at dksX4_isWord_0 8 rfl rfl)
theorem dX4_isWord_10 : decode cX4_isWord 10 = .ok (.aload_n 0, 1) := dk_42 (dk_at dksX4_isWord_0 10 rfl rfl)
theorem dX4_isWord_11 : decode cX4_isWord 11 = .ok (.aload_n 0, 1) := dk_42 (dk_at dksX4_isWord_0 11 rfl rfl)
theorem dX4_isWord_12 : decode cX4_isWord 12 = .ok (.getfield 100, 3) := dk_180 0 100 (dk_at dksX4_isWord_0 12 rfl rfl)
theorem dX4_isWord_15 : decode cX4_isWord 15 = .ok (.iload 5, 2) := dk_21 5 (dk_at dksX4_isWord_0 15 rfl rfl)
theorem dX4_isWord_17 : decode cX4_isWord 17 = .ok (.iadd, 1) := dk_96 (dk_at dksX4_isWord_0 17 rfl rfl)
theorem dX4_isWord_18 : decode cX4_isWord 18 = .ok (.invokevirtual 107, 3) := dk_182 0 107 (dk_at dksX4_isWord_0 18 rfl rfl)
theorem dX4_isWord_21 : decode cX4_isWord 21 = .ok (.ifCond .eq 35, 3) := dk_153 0 35 (dk_at dksX4_isWord_0 21 rfl rfl)
theorem dX4_isWord_24 : decode cX4_isWord 24 = .ok (.iload 5, 2) := dk_21 5 (dk_at dksX4_isWord_1 0 rfl rfl)
theorem dX4_isWord_26 : decode cX4_isWord 26 = .ok (.bipush 8, 2) := dk_16 8 (dk_at dksX4_isWord_1 2 rfl rfl)
theorem dX4_isWord_28 : decode cX4_isWord 28 = .ok (.if_icmp .ge 22, 3) := dk_162 0 22 (dk_at dksX4_isWord_1 4 rfl rfl)
theorem dX4_isWord_31 : decode cX4_isWord 31 = .ok (.lload_n 3, 1) := dk_33 (dk_at dksX4_isWord_1 7 rfl rfl)
theorem dX4_isWord_32 : decode cX4_isWord 32 = .ok (.bipush 8, 2) := dk_16 8 (dk_at dksX4_isWord_1 8 rfl rfl)
theorem dX4_isWord_34 : decode cX4_isWord 34 = .ok (.lshl, 1) := dk_121 (dk_at dksX4_isWord_1 10 rfl rfl)
theorem dX4_isWord_35 : decode cX4_isWord 35 = .ok (.aload_n 0, 1) := dk_42 (dk_at dksX4_isWord_1 11 rfl rfl)
theorem dX4_isWord_36 : decode cX4_isWord 36 = .ok (.getfield 7, 3) := dk_180 0 7 (dk_at dksX4_isWord_1 12 rfl rfl)
theorem dX4_isWord_39 : decode cX4_isWord 39 = .ok (.aload_n 0, 1) := dk_42 (dk_at dksX4_isWord_1 15 rfl rfl)
theorem dX4_isWord_40 : decode cX4_isWord 40 = .ok (.getfield 100, 3) := dk_180 0 100 (dk_at dksX4_isWord_1 16 rfl rfl)
theorem dX4_isWord_43 : decode cX4_isWord 43 = .ok (.iload 5, 2) := dk_21 5 (dk_at dksX4_isWord_1 19 rfl rfl)
theorem dX4_isWord_45 : decode cX4_isWord 45 = .ok (.iadd, 1) := dk_96 (dk_at dksX4_isWord_1 21 rfl rfl)
theorem dX4_isWord_46 : decode cX4_isWord 46 = .ok (.baload, 1) := dk_51 (dk_at dksX4_isWord_1 22 rfl rfl)
theorem dX4_isWord_47 : decode cX4_isWord 47 = .ok (.i2l, 1) := dk_133 (dk_at dksX4_isWord_1 23 rfl rfl)
theorem dX4_isWord_48 : decode cX4_isWord 48 = .ok (.lor, 1) := dk_129 (dk_at dksX4_isWord_2 0 rfl rfl)
theorem dX4_isWord_49 : decode cX4_isWord 49 = .ok (.lstore_n 3, 1) := dk_66 (dk_at dksX4_isWord_2 1 rfl rfl)
theorem dX4_isWord_50 : decode cX4_isWord 50 = .ok (.iinc 5 1, 3) := dk_132 5 1 (dk_at dksX4_isWord_2 2 rfl rfl)
theorem dX4_isWord_53 : decode cX4_isWord 53 = .ok (.goto (-43), 3) := dk_167 255 213 (dk_at dksX4_isWord_2 5 rfl rfl)
theorem dX4_isWord_56 : decode cX4_isWord 56 = .ok (.iload 5, 2) := dk_21 5 (dk_at dksX4_isWord_2 8 rfl rfl)
theorem dX4_isWord_58 : decode cX4_isWord 58 = .ok (.ifCond .le 20, 3) := dk_158 0 20 (dk_at dksX4_isWord_2 10 rfl rfl)
theorem dX4_isWord_61 : decode cX4_isWord 61 = .ok (.iload 5, 2) := dk_21 5 (dk_at dksX4_isWord_2 13 rfl rfl)
theorem dX4_isWord_63 : decode cX4_isWord 63 = .ok (.bipush 8, 2) := dk_16 8 (dk_at dksX4_isWord_2 15 rfl rfl)
theorem dX4_isWord_65 : decode cX4_isWord 65 = .ok (.if_icmp .ge 13, 3) := dk_162 0 13 (dk_at dksX4_isWord_2 17 rfl rfl)
theorem dX4_isWord_68 : decode cX4_isWord 68 = .ok (.lload_n 3, 1) := dk_33 (dk_at dksX4_isWord_2 20 rfl rfl)
theorem dX4_isWord_69 : decode cX4_isWord 69 = .ok (.lload_n 1, 1) := dk_31 (dk_at dksX4_isWord_2 21 rfl rfl)
theorem dX4_isWord_70 : decode cX4_isWord 70 = .ok (.lcmp, 1) := dk_148 (dk_at dksX4_isWord_2 22 rfl rfl)
theorem dX4_isWord_71 : decode cX4_isWord 71 = .ok (.ifCond .ne 7, 3) := dk_154 0 7 (dk_at dksX4_isWord_3 0 rfl rfl)
theorem dX4_isWord_74 : decode cX4_isWord 74 = .ok (.iconst 1, 1) := dk_4 (dk_at dksX4_isWord_3 3 rfl rfl)
theorem dX4_isWord_75 : decode cX4_isWord 75 = .ok (.goto 4, 3) := dk_167 0 4 (dk_at dksX4_isWord_3 4 rfl rfl)
theorem dX4_isWord_78 : decode cX4_isWord 78 = .ok (.iconst 0, 1) := dk_3 (dk_at dksX4_isWord_3 7 rfl rfl)
theorem dX4_isWord_79 : decode cX4_isWord 79 = .ok (.ireturn, 1) := dk_172 (dk_at dksX4_isWord_3 8 rfl rfl)
abbrev cX4_isLetter : ByteArray := prog_20_method_10_code
def yX4_isLetter : MethodName := ⟨RX4, "isLetter", "(I)Z"⟩
def dkwX4_isLetter_1 : List UInt8 := [51, 16, 122, 163, 0, 7, 4, 167, 0, 4, 3, 172]
abbrev dktX4_isLetter_1 : List UInt8 := dkwX4_isLetter_1 ++ []
def dkwX4_isLetter_0 : List UInt8 := [27, 42, 180, 0, 90, 162, 0, 29, 42, 180, 0, 7, 27, 51, 16, 97, 161, 0, 18, 42, 180, 0, 7, 27]
abbrev dktX4_isLetter_0 : List UInt8 := dkwX4_isLetter_0 ++ dktX4_isLetter_1
theorem dksX4_isLetter_0 : cX4_isLetter.data.toList.drop 0 = dktX4_isLetter_0 := by decide +kernel
theorem dksX4_isLetter_1 : cX4_isLetter.data.toList.drop 24 = dktX4_isLetter_1 := dk_seg dksX4_isLetter_0 24 rfl rfl
theorem dX4_isLetter_0 : decode cX4_isLetter 0 = .ok (.iload_n 1, 1) := dk_27 (dk_at dksX4_isLetter_0 0 rfl rfl)
theorem dX4_isLetter_1 : decode cX4_isLetter 1 = .ok (.aload_n 0, 1) := dk_42 (dk_at dksX4_isLetter_0 1 rfl rfl)
theorem dX4_isLetter_2 : decode cX4_isLetter 2 = .ok (.getfield 90, 3) := dk_180 0 90 (dk_at dksX4_isLetter_0 2 rfl rfl)
theorem dX4_isLetter_5 : decode cX4_isLetter 5 = .ok (.if_icmp .ge 29, 3) := dk_162 0 29 (dk_at dksX4_isLetter_0 5 rfl rfl)
theorem dX4_isLetter_8 : decode cX4_isLetter 8 = .ok (.aload_n 0, 1) := dk_42 (dk_at dksX4_isLetter_0 8 rfl rfl)
theorem dX4_isLetter_9 : decode cX4_isLetter 9 = .ok (.getfield 7, 3) := dk_180 0 7 (dk_at dksX4_isLetter_0 9 rfl rfl)
theorem dX4_isLetter_12 : decode cX4_isLetter 12 = .ok (.iload_n 1, 1) := dk_27 (dk_at dksX4_isLetter_0 12 rfl rfl)
theorem dX4_isLetter_13 : decode cX4_isLetter 13 = .ok (.baload, 1) := dk_51 (dk_at dksX4_isLetter_0 13 rfl rfl)
theorem dX4_isLetter_14 : decode cX4_isLetter 14 = .ok (.bipush 97, 2) := dk_16 97 (dk_at dksX4_isLetter_0 14 rfl rfl)
theorem dX4_isLetter_16 : decode cX4_isLetter 16 = .ok (.if_icmp .lt 18, 3) := dk_161 0 18 (dk_at dksX4_isLetter_0 16 rfl rfl)
theorem dX4_isLetter_19 : decode cX4_isLetter 19 = .ok (.aload_n 0, 1) := dk_42 (dk_at dksX4_isLetter_0 19 rfl rfl)
theorem dX4_isLetter_20 : decode cX4_isLetter 20 = .ok (.getfield 7, 3) := dk_180 0 7 (dk_at dksX4_isLetter_0 20 rfl rfl)
theorem dX4_isLetter_23 : decode cX4_isLetter 23 = .ok (.iload_n 1, 1) := dk_27 (dk_at dksX4_isLetter_0 23 rfl rfl)
theorem dX4_isLetter_24 : decode cX4_isLetter 24 = .ok (.baload, 1) := dk_51 (dk_at dksX4_isLetter_1 0 rfl rfl)
theorem dX4_isLetter_25 : decode cX4_isLetter 25 = .ok (.bipush 122, 2) := dk_16 122 (dk_at dksX4_isLetter_1 1 rfl rfl)
theorem dX4_isLetter_27 : decode cX4_isLetter 27 = .ok (.if_icmp .gt 7, 3) := dk_163 0 7 (dk_at dksX4_isLetter_1 3 rfl rfl)
theorem dX4_isLetter_30 : decode cX4_isLetter 30 = .ok (.iconst 1, 1) := dk_4 (dk_at dksX4_isLetter_1 6 rfl rfl)
theorem dX4_isLetter_31 : decode cX4_isLetter 31 = .ok (.goto 4, 3) := dk_167 0 4 (dk_at dksX4_isLetter_1 7 rfl rfl)
theorem dX4_isLetter_34 : decode cX4_isLetter 34 = .ok (.iconst 0, 1) := dk_3 (dk_at dksX4_isLetter_1 10 rfl rfl)
theorem dX4_isLetter_35 : decode cX4_isLetter 35 = .ok (.ireturn, 1) := dk_172 (dk_at dksX4_isLetter_1 11 rfl rfl)
abbrev cX4_fails : ByteArray := prog_20_method_7_code
def yX4_fails : MethodName := ⟨RX4, "fails", "(II)Z"⟩
def dkwX4_fails_0 : List UInt8 := [42, 180, 0, 97, 154, 0, 15, 42, 4, 16, 8, 28, 104, 96, 27, 96, 181, 0, 97, 3, 172]
abbrev dktX4_fails_0 : List UInt8 := dkwX4_fails_0 ++ []
theorem dksX4_fails_0 : cX4_fails.data.toList.drop 0 = dktX4_fails_0 := by decide +kernel
theorem dX4_fails_0 : decode cX4_fails 0 = .ok (.aload_n 0, 1) := dk_42 (dk_at dksX4_fails_0 0 rfl rfl)
theorem dX4_fails_1 : decode cX4_fails 1 = .ok (.getfield 97, 3) := dk_180 0 97 (dk_at dksX4_fails_0 1 rfl rfl)
theorem dX4_fails_4 : decode cX4_fails 4 = .ok (.ifCond .ne 15, 3) := dk_154 0 15 (dk_at dksX4_fails_0 4 rfl rfl)
theorem dX4_fails_7 : decode cX4_fails 7 = .ok (.aload_n 0, 1) := dk_42 (dk_at dksX4_fails_0 7 rfl rfl)
theorem dX4_fails_8 : decode cX4_fails 8 = .ok (.iconst 1, 1) := dk_4 (dk_at dksX4_fails_0 8 rfl rfl)
theorem dX4_fails_9 : decode cX4_fails 9 = .ok (.bipush 8, 2) := dk_16 8 (dk_at dksX4_fails_0 9 rfl rfl)
theorem dX4_fails_11 : decode cX4_fails 11 = .ok (.iload_n 2, 1) := dk_28 (dk_at dksX4_fails_0 11 rfl rfl)
theorem dX4_fails_12 : decode cX4_fails 12 = .ok (.imul, 1) := dk_104 (dk_at dksX4_fails_0 12 rfl rfl)
theorem dX4_fails_13 : decode cX4_fails 13 = .ok (.iadd, 1) := dk_96 (dk_at dksX4_fails_0 13 rfl rfl)
theorem dX4_fails_14 : decode cX4_fails 14 = .ok (.iload_n 1, 1) := dk_27 (dk_at dksX4_fails_0 14 rfl rfl)
theorem dX4_fails_15 : decode cX4_fails 15 = .ok (.iadd, 1) := dk_96 (dk_at dksX4_fails_0 15 rfl rfl)
theorem dX4_fails_16 : decode cX4_fails 16 = .ok (.putfield 97, 3) := dk_181 0 97 (dk_at dksX4_fails_0 16 rfl rfl)
theorem dX4_fails_19 : decode cX4_fails 19 = .ok (.iconst 0, 1) := dk_3 (dk_at dksX4_fails_0 19 rfl rfl)
theorem dX4_fails_20 : decode cX4_fails 20 = .ok (.ireturn, 1) := dk_172 (dk_at dksX4_fails_0 20 rfl rfl)
abbrev cX4_castleLineHere : ByteArray := prog_20_method_36_code
def yX4_castleLineHere : MethodName := ⟨RX4, "castleLineHere", "(I)Z"⟩
def dkwX4_castleLineHere_4 : List UInt8 := [27, 182, 0, 247, 167, 0, 8, 42, 27, 182, 0, 250, 172]
abbrev dktX4_castleLineHere_4 : List UInt8 := dkwX4_castleLineHere_4 ++ []
def dkwX4_castleLineHere_3 : List UInt8 := [182, 0, 111, 153, 0, 10, 42, 27, 4, 182, 0, 242, 172, 42, 20, 0, 146, 182, 0, 111, 153, 0, 11, 42]
abbrev dktX4_castleLineHere_3 : List UInt8 := dkwX4_castleLineHere_3 ++ dktX4_castleLineHere_4
def dkwX4_castleLineHere_2 : List UInt8 := [172, 42, 20, 0, 240, 182, 0, 111, 153, 0, 10, 42, 27, 3, 182, 0, 242, 172, 42, 20, 0, 245]
abbrev dktX4_castleLineHere_2 : List UInt8 := dkwX4_castleLineHere_2 ++ dktX4_castleLineHere_3
def dkwX4_castleLineHere_1 : List UInt8 := [154, 0, 10, 42, 7, 27, 182, 0, 121, 172, 42, 20, 0, 136, 182, 0, 111, 153, 0, 8, 42, 182, 0, 237]
abbrev dktX4_castleLineHere_1 : List UInt8 := dkwX4_castleLineHere_1 ++ dktX4_castleLineHere_2
def dkwX4_castleLineHere_0 : List UInt8 := [42, 20, 0, 232, 182, 0, 111, 153, 0, 9, 42, 27, 182, 0, 234, 172, 42, 180, 0, 26, 3, 46]
abbrev dktX4_castleLineHere_0 : List UInt8 := dkwX4_castleLineHere_0 ++ dktX4_castleLineHere_1
theorem dksX4_castleLineHere_0 : cX4_castleLineHere.data.toList.drop 0 = dktX4_castleLineHere_0 := by decide +kernel
theorem dksX4_castleLineHere_1 : cX4_castleLineHere.data.toList.drop 22 = dktX4_castleLineHere_1 := dk_seg dksX4_castleLineHere_0 22 rfl rfl
theorem dksX4_castleLineHere_2 : cX4_castleLineHere.data.toList.drop 46 = dktX4_castleLineHere_2 := dk_seg dksX4_castleLineHere_1 24 rfl rfl
theorem dksX4_castleLineHere_3 : cX4_castleLineHere.data.toList.drop 68 = dktX4_castleLineHere_3 := dk_seg dksX4_castleLineHere_2 22 rfl rfl
theorem dksX4_castleLineHere_4 : cX4_castleLineHere.data.toList.drop 92 = dktX4_castleLineHere_4 := dk_seg dksX4_castleLineHere_3 24 rfl rfl
theorem dX4_castleLineHere_0 : decode cX4_castleLineHere 0 = .ok (.aload_n 0, 1) := dk_42 (dk_at dksX4_castleLineHere_0 0 rfl rfl)
theorem dX4_castleLineHere_1 : decode cX4_castleLineHere 1 = .ok (.ldc2_w 232, 3) := dk_20 0 232 (dk_at dksX4_castleLineHere_0 1 rfl rfl)
theorem dX4_castleLineHere_4 : decode cX4_castleLineHere 4 = .ok (.invokevirtual 111, 3) := dk_182 0 111 (dk_at dksX4_castleLineHere_0 4 rfl rfl)
theorem dX4_castleLineHere_7 : decode cX4_castleLineHere 7 = .ok (.ifCond .eq 9, 3) := dk_153 0 9 (dk_at dksX4_castleLineHere_0 7 rfl rfl)
theorem dX4_castleLineHere_10 : decode cX4_castleLineHere 10 = .ok (.aload_n 0, 1) := dk_42 (dk_at dksX4_castleLineHere_0 10 rfl rfl)
theorem dX4_castleLineHere_11 : decode cX4_castleLineHere 11 = .ok (.iload_n 1, 1) := dk_27 (dk_at dksX4_castleLineHere_0 11 rfl rfl)
theorem dX4_castleLineHere_12 : decode cX4_castleLineHere 12 = .ok (.invokevirtual 234, 3) := dk_182 0 234 (dk_at dksX4_castleLineHere_0 12 rfl rfl)
theorem dX4_castleLineHere_15 : decode cX4_castleLineHere 15 = .ok (.ireturn, 1) := dk_172 (dk_at dksX4_castleLineHere_0 15 rfl rfl)
theorem dX4_castleLineHere_16 : decode cX4_castleLineHere 16 = .ok (.aload_n 0, 1) := dk_42 (dk_at dksX4_castleLineHere_0 16 rfl rfl)
theorem dX4_castleLineHere_17 : decode cX4_castleLineHere 17 = .ok (.getfield 26, 3) := dk_180 0 26 (dk_at dksX4_castleLineHere_0 17 rfl rfl)
theorem dX4_castleLineHere_20 : decode cX4_castleLineHere 20 = .ok (.iconst 0, 1) := dk_3 (dk_at dksX4_castleLineHere_0 20 rfl rfl)
theorem dX4_castleLineHere_21 : decode cX4_castleLineHere 21 = .ok (.iaload, 1) := dk_46 (dk_at dksX4_castleLineHere_0 21 rfl rfl)
theorem dX4_castleLineHere_22 : decode cX4_castleLineHere 22 = .ok (.ifCond .ne 10, 3) := dk_154 0 10 (dk_at dksX4_castleLineHere_1 0 rfl rfl)
theorem dX4_castleLineHere_25 : decode cX4_castleLineHere 25 = .ok (.aload_n 0, 1) := dk_42 (dk_at dksX4_castleLineHere_1 3 rfl rfl)
theorem dX4_castleLineHere_26 : decode cX4_castleLineHere 26 = .ok (.iconst 4, 1) := dk_7 (dk_at dksX4_castleLineHere_1 4 rfl rfl)
theorem dX4_castleLineHere_27 : decode cX4_castleLineHere 27 = .ok (.iload_n 1, 1) := dk_27 (dk_at dksX4_castleLineHere_1 5 rfl rfl)
theorem dX4_castleLineHere_28 : decode cX4_castleLineHere 28 = .ok (.invokevirtual 121, 3) := dk_182 0 121 (dk_at dksX4_castleLineHere_1 6 rfl rfl)
theorem dX4_castleLineHere_31 : decode cX4_castleLineHere 31 = .ok (.ireturn, 1) := dk_172 (dk_at dksX4_castleLineHere_1 9 rfl rfl)
theorem dX4_castleLineHere_32 : decode cX4_castleLineHere 32 = .ok (.aload_n 0, 1) := dk_42 (dk_at dksX4_castleLineHere_1 10 rfl rfl)
theorem dX4_castleLineHere_33 : decode cX4_castleLineHere 33 = .ok (.ldc2_w 136, 3) := dk_20 0 136 (dk_at dksX4_castleLineHere_1 11 rfl rfl)
theorem dX4_castleLineHere_36 : decode cX4_castleLineHere 36 = .ok (.invokevirtual 111, 3) := dk_182 0 111 (dk_at dksX4_castleLineHere_1 14 rfl rfl)
theorem dX4_castleLineHere_39 : decode cX4_castleLineHere 39 = .ok (.ifCond .eq 8, 3) := dk_153 0 8 (dk_at dksX4_castleLineHere_1 17 rfl rfl)
theorem dX4_castleLineHere_42 : decode cX4_castleLineHere 42 = .ok (.aload_n 0, 1) := dk_42 (dk_at dksX4_castleLineHere_1 20 rfl rfl)
theorem dX4_castleLineHere_43 : decode cX4_castleLineHere 43 = .ok (.invokevirtual 237, 3) := dk_182 0 237 (dk_at dksX4_castleLineHere_1 21 rfl rfl)
theorem dX4_castleLineHere_46 : decode cX4_castleLineHere 46 = .ok (.ireturn, 1) := dk_172 (dk_at dksX4_castleLineHere_2 0 rfl rfl)
theorem dX4_castleLineHere_47 : decode cX4_castleLineHere 47 = .ok (.aload_n 0, 1) := dk_42 (dk_at dksX4_castleLineHere_2 1 rfl rfl)
theorem dX4_castleLineHere_48 : decode cX4_castleLineHere 48 = .ok (.ldc2_w 240, 3) := dk_20 0 240 (dk_at dksX4_castleLineHere_2 2 rfl rfl)
theorem dX4_castleLineHere_51 : decode cX4_castleLineHere 51 = .ok (.invokevirtual 111, 3) := dk_182 0 111 (dk_at dksX4_castleLineHere_2 5 rfl rfl)
theorem dX4_castleLineHere_54 : decode cX4_castleLineHere 54 = .ok (.ifCond .eq 10, 3) := dk_153 0 10 (dk_at dksX4_castleLineHere_2 8 rfl rfl)
theorem dX4_castleLineHere_57 : decode cX4_castleLineHere 57 = .ok (.aload_n 0, 1) := dk_42 (dk_at dksX4_castleLineHere_2 11 rfl rfl)
theorem dX4_castleLineHere_58 : decode cX4_castleLineHere 58 = .ok (.iload_n 1, 1) := dk_27 (dk_at dksX4_castleLineHere_2 12 rfl rfl)
theorem dX4_castleLineHere_59 : decode cX4_castleLineHere 59 = .ok (.iconst 0, 1) := dk_3 (dk_at dksX4_castleLineHere_2 13 rfl rfl)
theorem dX4_castleLineHere_60 : decode cX4_castleLineHere 60 = .ok (.invokevirtual 242, 3) := dk_182 0 242 (dk_at dksX4_castleLineHere_2 14 rfl rfl)
theorem dX4_castleLineHere_63 : decode cX4_castleLineHere 63 = .ok (.ireturn, 1) := dk_172 (dk_at dksX4_castleLineHere_2 17 rfl rfl)
theorem dX4_castleLineHere_64 : decode cX4_castleLineHere 64 = .ok (.aload_n 0, 1) := dk_42 (dk_at dksX4_castleLineHere_2 18 rfl rfl)
theorem dX4_castleLineHere_65 : decode cX4_castleLineHere 65 = .ok (.ldc2_w 245, 3) := dk_20 0 245 (dk_at dksX4_castleLineHere_2 19 rfl rfl)
theorem dX4_castleLineHere_68 : decode cX4_castleLineHere 68 = .ok (.invokevirtual 111, 3) := dk_182 0 111 (dk_at dksX4_castleLineHere_3 0 rfl rfl)
theorem dX4_castleLineHere_71 : decode cX4_castleLineHere 71 = .ok (.ifCond .eq 10, 3) := dk_153 0 10 (dk_at dksX4_castleLineHere_3 3 rfl rfl)
theorem dX4_castleLineHere_74 : decode cX4_castleLineHere 74 = .ok (.aload_n 0, 1) := dk_42 (dk_at dksX4_castleLineHere_3 6 rfl rfl)
theorem dX4_castleLineHere_75 : decode cX4_castleLineHere 75 = .ok (.iload_n 1, 1) := dk_27 (dk_at dksX4_castleLineHere_3 7 rfl rfl)
theorem dX4_castleLineHere_76 : decode cX4_castleLineHere 76 = .ok (.iconst 1, 1) := dk_4 (dk_at dksX4_castleLineHere_3 8 rfl rfl)
theorem dX4_castleLineHere_77 : decode cX4_castleLineHere 77 = .ok (.invokevirtual 242, 3) := dk_182 0 242 (dk_at dksX4_castleLineHere_3 9 rfl rfl)
theorem dX4_castleLineHere_80 : decode cX4_castleLineHere 80 = .ok (.ireturn, 1) := dk_172 (dk_at dksX4_castleLineHere_3 12 rfl rfl)
theorem dX4_castleLineHere_81 : decode cX4_castleLineHere 81 = .ok (.aload_n 0, 1) := dk_42 (dk_at dksX4_castleLineHere_3 13 rfl rfl)
theorem dX4_castleLineHere_82 : decode cX4_castleLineHere 82 = .ok (.ldc2_w 146, 3) := dk_20 0 146 (dk_at dksX4_castleLineHere_3 14 rfl rfl)
theorem dX4_castleLineHere_85 : decode cX4_castleLineHere 85 = .ok (.invokevirtual 111, 3) := dk_182 0 111 (dk_at dksX4_castleLineHere_3 17 rfl rfl)
theorem dX4_castleLineHere_88 : decode cX4_castleLineHere 88 = .ok (.ifCond .eq 11, 3) := dk_153 0 11 (dk_at dksX4_castleLineHere_3 20 rfl rfl)
theorem dX4_castleLineHere_91 : decode cX4_castleLineHere 91 = .ok (.aload_n 0, 1) := dk_42 (dk_at dksX4_castleLineHere_3 23 rfl rfl)
theorem dX4_castleLineHere_92 : decode cX4_castleLineHere 92 = .ok (.iload_n 1, 1) := dk_27 (dk_at dksX4_castleLineHere_4 0 rfl rfl)
theorem dX4_castleLineHere_93 : decode cX4_castleLineHere 93 = .ok (.invokevirtual 247, 3) := dk_182 0 247 (dk_at dksX4_castleLineHere_4 1 rfl rfl)
theorem dX4_castleLineHere_96 : decode cX4_castleLineHere 96 = .ok (.goto 8, 3) := dk_167 0 8 (dk_at dksX4_castleLineHere_4 4 rfl rfl)
theorem dX4_castleLineHere_99 : decode cX4_castleLineHere 99 = .ok (.aload_n 0, 1) := dk_42 (dk_at dksX4_castleLineHere_4 7 rfl rfl)
theorem dX4_castleLineHere_100 : decode cX4_castleLineHere 100 = .ok (.iload_n 1, 1) := dk_27 (dk_at dksX4_castleLineHere_4 8 rfl rfl)
theorem dX4_castleLineHere_101 : decode cX4_castleLineHere 101 = .ok (.invokevirtual 250, 3) := dk_182 0 250 (dk_at dksX4_castleLineHere_4 9 rfl rfl)
theorem dX4_castleLineHere_104 : decode cX4_castleLineHere 104 = .ok (.ireturn, 1) := dk_172 (dk_at dksX4_castleLineHere_4 12 rfl rfl)
abbrev cX4_isCastleHere : ByteArray := prog_20_method_31_code
def yX4_isCastleHere : MethodName := ⟨RX4, "isCastleHere", "(I)Z"⟩
def dkwX4_isCastleHere_1 : List UInt8 := [16, 8, 182, 0, 228, 172]
abbrev dktX4_isCastleHere_1 : List UInt8 := dkwX4_isCastleHere_1 ++ []
def dkwX4_isCastleHere_0 : List UInt8 := [42, 180, 0, 26, 3, 46, 158, 0, 10, 42, 7, 27, 182, 0, 121, 172, 42, 182, 0, 115, 42, 3, 5]
abbrev dktX4_isCastleHere_0 : List UInt8 := dkwX4_isCastleHere_0 ++ dktX4_isCastleHere_1
theorem dksX4_isCastleHere_0 : cX4_isCastleHere.data.toList.drop 0 = dktX4_isCastleHere_0 := by decide +kernel
theorem dksX4_isCastleHere_1 : cX4_isCastleHere.data.toList.drop 23 = dktX4_isCastleHere_1 := dk_seg dksX4_isCastleHere_0 23 rfl rfl
theorem dX4_isCastleHere_0 : decode cX4_isCastleHere 0 = .ok (.aload_n 0, 1) := dk_42 (dk_at dksX4_isCastleHere_0 0 rfl rfl)
theorem dX4_isCastleHere_1 : decode cX4_isCastleHere 1 = .ok (.getfield 26, 3) := dk_180 0 26 (dk_at dksX4_isCastleHere_0 1 rfl rfl)
theorem dX4_isCastleHere_4 : decode cX4_isCastleHere 4 = .ok (.iconst 0, 1) := dk_3 (dk_at dksX4_isCastleHere_0 4 rfl rfl)
theorem dX4_isCastleHere_5 : decode cX4_isCastleHere 5 = .ok (.iaload, 1) := dk_46 (dk_at dksX4_isCastleHere_0 5 rfl rfl)
theorem dX4_isCastleHere_6 : decode cX4_isCastleHere 6 = .ok (.ifCond .le 10, 3) := dk_158 0 10 (dk_at dksX4_isCastleHere_0 6 rfl rfl)
theorem dX4_isCastleHere_9 : decode cX4_isCastleHere 9 = .ok (.aload_n 0, 1) := dk_42 (dk_at dksX4_isCastleHere_0 9 rfl rfl)
theorem dX4_isCastleHere_10 : decode cX4_isCastleHere 10 = .ok (.iconst 4, 1) := dk_7 (dk_at dksX4_isCastleHere_0 10 rfl rfl)
theorem dX4_isCastleHere_11 : decode cX4_isCastleHere 11 = .ok (.iload_n 1, 1) := dk_27 (dk_at dksX4_isCastleHere_0 11 rfl rfl)
theorem dX4_isCastleHere_12 : decode cX4_isCastleHere 12 = .ok (.invokevirtual 121, 3) := dk_182 0 121 (dk_at dksX4_isCastleHere_0 12 rfl rfl)
theorem dX4_isCastleHere_15 : decode cX4_isCastleHere 15 = .ok (.ireturn, 1) := dk_172 (dk_at dksX4_isCastleHere_0 15 rfl rfl)
theorem dX4_isCastleHere_16 : decode cX4_isCastleHere 16 = .ok (.aload_n 0, 1) := dk_42 (dk_at dksX4_isCastleHere_0 16 rfl rfl)
theorem dX4_isCastleHere_17 : decode cX4_isCastleHere 17 = .ok (.invokevirtual 115, 3) := dk_182 0 115 (dk_at dksX4_isCastleHere_0 17 rfl rfl)
theorem dX4_isCastleHere_20 : decode cX4_isCastleHere 20 = .ok (.aload_n 0, 1) := dk_42 (dk_at dksX4_isCastleHere_0 20 rfl rfl)
theorem dX4_isCastleHere_21 : decode cX4_isCastleHere 21 = .ok (.iconst 0, 1) := dk_3 (dk_at dksX4_isCastleHere_0 21 rfl rfl)
theorem dX4_isCastleHere_22 : decode cX4_isCastleHere 22 = .ok (.iconst 2, 1) := dk_5 (dk_at dksX4_isCastleHere_0 22 rfl rfl)
theorem dX4_isCastleHere_23 : decode cX4_isCastleHere 23 = .ok (.bipush 8, 2) := dk_16 8 (dk_at dksX4_isCastleHere_1 0 rfl rfl)
theorem dX4_isCastleHere_25 : decode cX4_isCastleHere 25 = .ok (.invokevirtual 228, 3) := dk_182 0 228 (dk_at dksX4_isCastleHere_1 2 rfl rfl)
theorem dX4_isCastleHere_28 : decode cX4_isCastleHere 28 = .ok (.ireturn, 1) := dk_172 (dk_at dksX4_isCastleHere_1 5 rfl rfl)
abbrev cX4_passWord : ByteArray := prog_20_method_12_code
def yX4_passWord : MethodName := ⟨RX4, "passWord", "()V"⟩
def dkwX4_passWord_1 : List UInt8 := [177]
abbrev dktX4_passWord_1 : List UInt8 := dkwX4_passWord_1 ++ []
def dkwX4_passWord_0 : List UInt8 := [42, 42, 180, 0, 100, 182, 0, 107, 153, 0, 16, 42, 89, 180, 0, 100, 4, 96, 181, 0, 100, 167, 255, 235]
abbrev dktX4_passWord_0 : List UInt8 := dkwX4_passWord_0 ++ dktX4_passWord_1
theorem dksX4_passWord_0 : cX4_passWord.data.toList.drop 0 = dktX4_passWord_0 := by decide +kernel
theorem dksX4_passWord_1 : cX4_passWord.data.toList.drop 24 = dktX4_passWord_1 := dk_seg dksX4_passWord_0 24 rfl rfl
theorem dX4_passWord_0 : decode cX4_passWord 0 = .ok (.aload_n 0, 1) := dk_42 (dk_at dksX4_passWord_0 0 rfl rfl)
theorem dX4_passWord_1 : decode cX4_passWord 1 = .ok (.aload_n 0, 1) := dk_42 (dk_at dksX4_passWord_0 1 rfl rfl)
theorem dX4_passWord_2 : decode cX4_passWord 2 = .ok (.getfield 100, 3) := dk_180 0 100 (dk_at dksX4_passWord_0 2 rfl rfl)
theorem dX4_passWord_5 : decode cX4_passWord 5 = .ok (.invokevirtual 107, 3) := dk_182 0 107 (dk_at dksX4_passWord_0 5 rfl rfl)
theorem dX4_passWord_8 : decode cX4_passWord 8 = .ok (.ifCond .eq 16, 3) := dk_153 0 16 (dk_at dksX4_passWord_0 8 rfl rfl)
theorem dX4_passWord_11 : decode cX4_passWord 11 = .ok (.aload_n 0, 1) := dk_42 (dk_at dksX4_passWord_0 11 rfl rfl)
theorem dX4_passWord_12 : decode cX4_passWord 12 = .ok (.dup, 1) := dk_89 (dk_at dksX4_passWord_0 12 rfl rfl)
theorem dX4_passWord_13 : decode cX4_passWord 13 = .ok (.getfield 100, 3) := dk_180 0 100 (dk_at dksX4_passWord_0 13 rfl rfl)
theorem dX4_passWord_16 : decode cX4_passWord 16 = .ok (.iconst 1, 1) := dk_4 (dk_at dksX4_passWord_0 16 rfl rfl)
theorem dX4_passWord_17 : decode cX4_passWord 17 = .ok (.iadd, 1) := dk_96 (dk_at dksX4_passWord_0 17 rfl rfl)
theorem dX4_passWord_18 : decode cX4_passWord 18 = .ok (.putfield 100, 3) := dk_181 0 100 (dk_at dksX4_passWord_0 18 rfl rfl)
theorem dX4_passWord_21 : decode cX4_passWord 21 = .ok (.goto (-21), 3) := dk_167 255 235 (dk_at dksX4_passWord_0 21 rfl rfl)
theorem dX4_passWord_24 : decode cX4_passWord 24 = .ok (.return_, 1) := dk_177 (dk_at dksX4_passWord_1 0 rfl rfl)
abbrev cX4_cellHere : ByteArray := prog_20_method_30_code
def yX4_cellHere : MethodName := ⟨RX4, "cellHere", "(III)Z"⟩
def dkwX4_cellHere_0 : List UInt8 := [42, 28, 29, 182, 0, 177, 154, 0, 5, 3, 172, 42, 180, 0, 26, 27, 42, 180, 0, 125, 79, 4, 172]
abbrev dktX4_cellHere_0 : List UInt8 := dkwX4_cellHere_0 ++ []
theorem dksX4_cellHere_0 : cX4_cellHere.data.toList.drop 0 = dktX4_cellHere_0 := by decide +kernel
theorem dX4_cellHere_0 : decode cX4_cellHere 0 = .ok (.aload_n 0, 1) := dk_42 (dk_at dksX4_cellHere_0 0 rfl rfl)
theorem dX4_cellHere_1 : decode cX4_cellHere 1 = .ok (.iload_n 2, 1) := dk_28 (dk_at dksX4_cellHere_0 1 rfl rfl)
theorem dX4_cellHere_2 : decode cX4_cellHere 2 = .ok (.iload_n 3, 1) := dk_29 (dk_at dksX4_cellHere_0 2 rfl rfl)
theorem dX4_cellHere_3 : decode cX4_cellHere 3 = .ok (.invokevirtual 177, 3) := dk_182 0 177 (dk_at dksX4_cellHere_0 3 rfl rfl)
theorem dX4_cellHere_6 : decode cX4_cellHere 6 = .ok (.ifCond .ne 5, 3) := dk_154 0 5 (dk_at dksX4_cellHere_0 6 rfl rfl)
theorem dX4_cellHere_9 : decode cX4_cellHere 9 = .ok (.iconst 0, 1) := dk_3 (dk_at dksX4_cellHere_0 9 rfl rfl)
theorem dX4_cellHere_10 : decode cX4_cellHere 10 = .ok (.ireturn, 1) := dk_172 (dk_at dksX4_cellHere_0 10 rfl rfl)
theorem dX4_cellHere_11 : decode cX4_cellHere 11 = .ok (.aload_n 0, 1) := dk_42 (dk_at dksX4_cellHere_0 11 rfl rfl)
theorem dX4_cellHere_12 : decode cX4_cellHere 12 = .ok (.getfield 26, 3) := dk_180 0 26 (dk_at dksX4_cellHere_0 12 rfl rfl)
theorem dX4_cellHere_15 : decode cX4_cellHere 15 = .ok (.iload_n 1, 1) := dk_27 (dk_at dksX4_cellHere_0 15 rfl rfl)
theorem dX4_cellHere_16 : decode cX4_cellHere 16 = .ok (.aload_n 0, 1) := dk_42 (dk_at dksX4_cellHere_0 16 rfl rfl)
theorem dX4_cellHere_17 : decode cX4_cellHere 17 = .ok (.getfield 125, 3) := dk_180 0 125 (dk_at dksX4_cellHere_0 17 rfl rfl)
theorem dX4_cellHere_20 : decode cX4_cellHere 20 = .ok (.iastore, 1) := dk_79 (dk_at dksX4_cellHere_0 20 rfl rfl)
theorem dX4_cellHere_21 : decode cX4_cellHere 21 = .ok (.iconst 1, 1) := dk_4 (dk_at dksX4_cellHere_0 21 rfl rfl)
theorem dX4_cellHere_22 : decode cX4_cellHere 22 = .ok (.ireturn, 1) := dk_172 (dk_at dksX4_cellHere_0 22 rfl rfl)
abbrev cX4_numberHere : ByteArray := prog_20_method_14_code
def yX4_numberHere : MethodName := ⟨RX4, "numberHere", "(II)Z"⟩
def dkwX4_numberHere_5 : List UInt8 := [4, 29, 182, 0, 121, 153, 0, 7, 4, 167, 0, 4, 3, 172]
abbrev dktX4_numberHere_5 : List UInt8 := dkwX4_numberHere_5 ++ []
def dkwX4_numberHere_4 : List UInt8 := [42, 180, 0, 100, 29, 100, 8, 163, 0, 16, 21, 4, 133, 27, 133, 28, 133, 184, 0, 128, 154, 0, 12, 42]
abbrev dktX4_numberHere_4 : List UInt8 := dkwX4_numberHere_4 ++ dktX4_numberHere_5
def dkwX4_numberHere_3 : List UInt8 := [16, 48, 100, 54, 4, 42, 89, 180, 0, 100, 4, 96, 181, 0, 100, 167, 255, 205, 42, 21, 4, 181, 0, 125]
abbrev dktX4_numberHere_3 : List UInt8 := dkwX4_numberHere_3 ++ dktX4_numberHere_4
def dkwX4_numberHere_2 : List UInt8 := [180, 0, 100, 29, 100, 8, 162, 0, 23, 16, 10, 21, 4, 104, 42, 180, 0, 7, 42, 180, 0, 100, 51, 96]
abbrev dktX4_numberHere_2 : List UInt8 := dkwX4_numberHere_2 ++ dktX4_numberHere_3
def dkwX4_numberHere_1 : List UInt8 := [182, 0, 121, 172, 42, 180, 0, 100, 62, 3, 54, 4, 42, 42, 180, 0, 100, 182, 0, 118, 153, 0, 46, 42]
abbrev dktX4_numberHere_1 : List UInt8 := dkwX4_numberHere_1 ++ dktX4_numberHere_2
def dkwX4_numberHere_0 : List UInt8 := [42, 182, 0, 103, 87, 42, 42, 180, 0, 100, 182, 0, 118, 154, 0, 13, 42, 3, 42, 180, 0, 100]
abbrev dktX4_numberHere_0 : List UInt8 := dkwX4_numberHere_0 ++ dktX4_numberHere_1
theorem dksX4_numberHere_0 : cX4_numberHere.data.toList.drop 0 = dktX4_numberHere_0 := by decide +kernel
theorem dksX4_numberHere_1 : cX4_numberHere.data.toList.drop 22 = dktX4_numberHere_1 := dk_seg dksX4_numberHere_0 22 rfl rfl
theorem dksX4_numberHere_2 : cX4_numberHere.data.toList.drop 46 = dktX4_numberHere_2 := dk_seg dksX4_numberHere_1 24 rfl rfl
theorem dksX4_numberHere_3 : cX4_numberHere.data.toList.drop 70 = dktX4_numberHere_3 := dk_seg dksX4_numberHere_2 24 rfl rfl
theorem dksX4_numberHere_4 : cX4_numberHere.data.toList.drop 94 = dktX4_numberHere_4 := dk_seg dksX4_numberHere_3 24 rfl rfl
theorem dksX4_numberHere_5 : cX4_numberHere.data.toList.drop 118 = dktX4_numberHere_5 := dk_seg dksX4_numberHere_4 24 rfl rfl
theorem dX4_numberHere_0 : decode cX4_numberHere 0 = .ok (.aload_n 0, 1) := dk_42 (dk_at dksX4_numberHere_0 0 rfl rfl)
theorem dX4_numberHere_1 : decode cX4_numberHere 1 = .ok (.invokevirtual 103, 3) := dk_182 0 103 (dk_at dksX4_numberHere_0 1 rfl rfl)
theorem dX4_numberHere_4 : decode cX4_numberHere 4 = .ok (.pop, 1) := dk_87 (dk_at dksX4_numberHere_0 4 rfl rfl)
theorem dX4_numberHere_5 : decode cX4_numberHere 5 = .ok (.aload_n 0, 1) := dk_42 (dk_at dksX4_numberHere_0 5 rfl rfl)
theorem dX4_numberHere_6 : decode cX4_numberHere 6 = .ok (.aload_n 0, 1) := dk_42 (dk_at dksX4_numberHere_0 6 rfl rfl)
theorem dX4_numberHere_7 : decode cX4_numberHere 7 = .ok (.getfield 100, 3) := dk_180 0 100 (dk_at dksX4_numberHere_0 7 rfl rfl)
theorem dX4_numberHere_10 : decode cX4_numberHere 10 = .ok (.invokevirtual 118, 3) := dk_182 0 118 (dk_at dksX4_numberHere_0 10 rfl rfl)
theorem dX4_numberHere_13 : decode cX4_numberHere 13 = .ok (.ifCond .ne 13, 3) := dk_154 0 13 (dk_at dksX4_numberHere_0 13 rfl rfl)
theorem dX4_numberHere_16 : decode cX4_numberHere 16 = .ok (.aload_n 0, 1) := dk_42 (dk_at dksX4_numberHere_0 16 rfl rfl)
theorem dX4_numberHere_17 : decode cX4_numberHere 17 = .ok (.iconst 0, 1) := dk_3 (dk_at dksX4_numberHere_0 17 rfl rfl)
theorem dX4_numberHere_18 : decode cX4_numberHere 18 = .ok (.aload_n 0, 1) := dk_42 (dk_at dksX4_numberHere_0 18 rfl rfl)
theorem dX4_numberHere_19 : decode cX4_numberHere 19 = .ok (.getfield 100, 3) := dk_180 0 100 (dk_at dksX4_numberHere_0 19 rfl rfl)
theorem dX4_numberHere_22 : decode cX4_numberHere 22 = .ok (.invokevirtual 121, 3) := dk_182 0 121 (dk_at dksX4_numberHere_1 0 rfl rfl)
theorem dX4_numberHere_25 : decode cX4_numberHere 25 = .ok (.ireturn, 1) := dk_172 (dk_at dksX4_numberHere_1 3 rfl rfl)
theorem dX4_numberHere_26 : decode cX4_numberHere 26 = .ok (.aload_n 0, 1) := dk_42 (dk_at dksX4_numberHere_1 4 rfl rfl)
theorem dX4_numberHere_27 : decode cX4_numberHere 27 = .ok (.getfield 100, 3) := dk_180 0 100 (dk_at dksX4_numberHere_1 5 rfl rfl)
theorem dX4_numberHere_30 : decode cX4_numberHere 30 = .ok (.istore_n 3, 1) := dk_62 (dk_at dksX4_numberHere_1 8 rfl rfl)
theorem dX4_numberHere_31 : decode cX4_numberHere 31 = .ok (.iconst 0, 1) := dk_3 (dk_at dksX4_numberHere_1 9 rfl rfl)
theorem dX4_numberHere_32 : decode cX4_numberHere 32 = .ok (.istore 4, 2) := dk_54 4 (dk_at dksX4_numberHere_1 10 rfl rfl)
theorem dX4_numberHere_34 : decode cX4_numberHere 34 = .ok (.aload_n 0, 1) := dk_42 (dk_at dksX4_numberHere_1 12 rfl rfl)
theorem dX4_numberHere_35 : decode cX4_numberHere 35 = .ok (.aload_n 0, 1) := dk_42 (dk_at dksX4_numberHere_1 13 rfl rfl)
theorem dX4_numberHere_36 : decode cX4_numberHere 36 = .ok (.getfield 100, 3) := dk_180 0 100 (dk_at dksX4_numberHere_1 14 rfl rfl)
theorem dX4_numberHere_39 : decode cX4_numberHere 39 = .ok (.invokevirtual 118, 3) := dk_182 0 118 (dk_at dksX4_numberHere_1 17 rfl rfl)
theorem dX4_numberHere_42 : decode cX4_numberHere 42 = .ok (.ifCond .eq 46, 3) := dk_153 0 46 (dk_at dksX4_numberHere_1 20 rfl rfl)
theorem dX4_numberHere_45 : decode cX4_numberHere 45 = .ok (.aload_n 0, 1) := dk_42 (dk_at dksX4_numberHere_1 23 rfl rfl)
theorem dX4_numberHere_46 : decode cX4_numberHere 46 = .ok (.getfield 100, 3) := dk_180 0 100 (dk_at dksX4_numberHere_2 0 rfl rfl)
theorem dX4_numberHere_49 : decode cX4_numberHere 49 = .ok (.iload_n 3, 1) := dk_29 (dk_at dksX4_numberHere_2 3 rfl rfl)
theorem dX4_numberHere_50 : decode cX4_numberHere 50 = .ok (.isub, 1) := dk_100 (dk_at dksX4_numberHere_2 4 rfl rfl)
theorem dX4_numberHere_51 : decode cX4_numberHere 51 = .ok (.iconst 5, 1) := dk_8 (dk_at dksX4_numberHere_2 5 rfl rfl)
theorem dX4_numberHere_52 : decode cX4_numberHere 52 = .ok (.if_icmp .ge 23, 3) := dk_162 0 23 (dk_at dksX4_numberHere_2 6 rfl rfl)
theorem dX4_numberHere_55 : decode cX4_numberHere 55 = .ok (.bipush 10, 2) := dk_16 10 (dk_at dksX4_numberHere_2 9 rfl rfl)
theorem dX4_numberHere_57 : decode cX4_numberHere 57 = .ok (.iload 4, 2) := dk_21 4 (dk_at dksX4_numberHere_2 11 rfl rfl)
theorem dX4_numberHere_59 : decode cX4_numberHere 59 = .ok (.imul, 1) := dk_104 (dk_at dksX4_numberHere_2 13 rfl rfl)
theorem dX4_numberHere_60 : decode cX4_numberHere 60 = .ok (.aload_n 0, 1) := dk_42 (dk_at dksX4_numberHere_2 14 rfl rfl)
theorem dX4_numberHere_61 : decode cX4_numberHere 61 = .ok (.getfield 7, 3) := dk_180 0 7 (dk_at dksX4_numberHere_2 15 rfl rfl)
theorem dX4_numberHere_64 : decode cX4_numberHere 64 = .ok (.aload_n 0, 1) := dk_42 (dk_at dksX4_numberHere_2 18 rfl rfl)
theorem dX4_numberHere_65 : decode cX4_numberHere 65 = .ok (.getfield 100, 3) := dk_180 0 100 (dk_at dksX4_numberHere_2 19 rfl rfl)
theorem dX4_numberHere_68 : decode cX4_numberHere 68 = .ok (.baload, 1) := dk_51 (dk_at dksX4_numberHere_2 22 rfl rfl)
theorem dX4_numberHere_69 : decode cX4_numberHere 69 = .ok (.iadd, 1) := dk_96 (dk_at dksX4_numberHere_2 23 rfl rfl)
theorem dX4_numberHere_70 : decode cX4_numberHere 70 = .ok (.bipush 48, 2) := dk_16 48 (dk_at dksX4_numberHere_3 0 rfl rfl)
theorem dX4_numberHere_72 : decode cX4_numberHere 72 = .ok (.isub, 1) := dk_100 (dk_at dksX4_numberHere_3 2 rfl rfl)
theorem dX4_numberHere_73 : decode cX4_numberHere 73 = .ok (.istore 4, 2) := dk_54 4 (dk_at dksX4_numberHere_3 3 rfl rfl)
theorem dX4_numberHere_75 : decode cX4_numberHere 75 = .ok (.aload_n 0, 1) := dk_42 (dk_at dksX4_numberHere_3 5 rfl rfl)
theorem dX4_numberHere_76 : decode cX4_numberHere 76 = .ok (.dup, 1) := dk_89 (dk_at dksX4_numberHere_3 6 rfl rfl)
theorem dX4_numberHere_77 : decode cX4_numberHere 77 = .ok (.getfield 100, 3) := dk_180 0 100 (dk_at dksX4_numberHere_3 7 rfl rfl)
theorem dX4_numberHere_80 : decode cX4_numberHere 80 = .ok (.iconst 1, 1) := dk_4 (dk_at dksX4_numberHere_3 10 rfl rfl)
theorem dX4_numberHere_81 : decode cX4_numberHere 81 = .ok (.iadd, 1) := dk_96 (dk_at dksX4_numberHere_3 11 rfl rfl)
theorem dX4_numberHere_82 : decode cX4_numberHere 82 = .ok (.putfield 100, 3) := dk_181 0 100 (dk_at dksX4_numberHere_3 12 rfl rfl)
theorem dX4_numberHere_85 : decode cX4_numberHere 85 = .ok (.goto (-51), 3) := dk_167 255 205 (dk_at dksX4_numberHere_3 15 rfl rfl)
theorem dX4_numberHere_88 : decode cX4_numberHere 88 = .ok (.aload_n 0, 1) := dk_42 (dk_at dksX4_numberHere_3 18 rfl rfl)
theorem dX4_numberHere_89 : decode cX4_numberHere 89 = .ok (.iload 4, 2) := dk_21 4 (dk_at dksX4_numberHere_3 19 rfl rfl)
theorem dX4_numberHere_91 : decode cX4_numberHere 91 = .ok (.putfield 125, 3) := dk_181 0 125 (dk_at dksX4_numberHere_3 21 rfl rfl)
theorem dX4_numberHere_94 : decode cX4_numberHere 94 = .ok (.aload_n 0, 1) := dk_42 (dk_at dksX4_numberHere_4 0 rfl rfl)
theorem dX4_numberHere_95 : decode cX4_numberHere 95 = .ok (.getfield 100, 3) := dk_180 0 100 (dk_at dksX4_numberHere_4 1 rfl rfl)
theorem dX4_numberHere_98 : decode cX4_numberHere 98 = .ok (.iload_n 3, 1) := dk_29 (dk_at dksX4_numberHere_4 4 rfl rfl)
theorem dX4_numberHere_99 : decode cX4_numberHere 99 = .ok (.isub, 1) := dk_100 (dk_at dksX4_numberHere_4 5 rfl rfl)
theorem dX4_numberHere_100 : decode cX4_numberHere 100 = .ok (.iconst 5, 1) := dk_8 (dk_at dksX4_numberHere_4 6 rfl rfl)
theorem dX4_numberHere_101 : decode cX4_numberHere 101 = .ok (.if_icmp .gt 16, 3) := dk_163 0 16 (dk_at dksX4_numberHere_4 7 rfl rfl)
theorem dX4_numberHere_104 : decode cX4_numberHere 104 = .ok (.iload 4, 2) := dk_21 4 (dk_at dksX4_numberHere_4 10 rfl rfl)
theorem dX4_numberHere_106 : decode cX4_numberHere 106 = .ok (.i2l, 1) := dk_133 (dk_at dksX4_numberHere_4 12 rfl rfl)
theorem dX4_numberHere_107 : decode cX4_numberHere 107 = .ok (.iload_n 1, 1) := dk_27 (dk_at dksX4_numberHere_4 13 rfl rfl)
theorem dX4_numberHere_108 : decode cX4_numberHere 108 = .ok (.i2l, 1) := dk_133 (dk_at dksX4_numberHere_4 14 rfl rfl)
theorem dX4_numberHere_109 : decode cX4_numberHere 109 = .ok (.iload_n 2, 1) := dk_28 (dk_at dksX4_numberHere_4 15 rfl rfl)
theorem dX4_numberHere_110 : decode cX4_numberHere 110 = .ok (.i2l, 1) := dk_133 (dk_at dksX4_numberHere_4 16 rfl rfl)
theorem dX4_numberHere_111 : decode cX4_numberHere 111 = .ok (.invokestatic 128, 3) := dk_184 0 128 (dk_at dksX4_numberHere_4 17 rfl rfl)
theorem dX4_numberHere_114 : decode cX4_numberHere 114 = .ok (.ifCond .ne 12, 3) := dk_154 0 12 (dk_at dksX4_numberHere_4 20 rfl rfl)
theorem dX4_numberHere_117 : decode cX4_numberHere 117 = .ok (.aload_n 0, 1) := dk_42 (dk_at dksX4_numberHere_4 23 rfl rfl)
theorem dX4_numberHere_118 : decode cX4_numberHere 118 = .ok (.iconst 1, 1) := dk_4 (dk_at dksX4_numberHere_5 0 rfl rfl)
theorem dX4_numberHere_119 : decode cX4_numberHere 119 = .ok (.iload_n 3, 1) := dk_29 (dk_at dksX4_numberHere_5 1 rfl rfl)
theorem dX4_numberHere_120 : decode cX4_numberHere 120 = .ok (.invokevirtual 121, 3) := dk_182 0 121 (dk_at dksX4_numberHere_5 2 rfl rfl)
theorem dX4_numberHere_123 : decode cX4_numberHere 123 = .ok (.ifCond .eq 7, 3) := dk_153 0 7 (dk_at dksX4_numberHere_5 5 rfl rfl)
theorem dX4_numberHere_126 : decode cX4_numberHere 126 = .ok (.iconst 1, 1) := dk_4 (dk_at dksX4_numberHere_5 8 rfl rfl)
theorem dX4_numberHere_127 : decode cX4_numberHere 127 = .ok (.goto 4, 3) := dk_167 0 4 (dk_at dksX4_numberHere_5 9 rfl rfl)
theorem dX4_numberHere_130 : decode cX4_numberHere 130 = .ok (.iconst 0, 1) := dk_3 (dk_at dksX4_numberHere_5 12 rfl rfl)
theorem dX4_numberHere_131 : decode cX4_numberHere 131 = .ok (.ireturn, 1) := dk_172 (dk_at dksX4_numberHere_5 13 rfl rfl)
abbrev cX4_isDigit : ByteArray := prog_20_method_9_code
def yX4_isDigit : MethodName := ⟨RX4, "isDigit", "(I)Z"⟩
def dkwX4_isDigit_1 : List UInt8 := [51, 16, 57, 163, 0, 7, 4, 167, 0, 4, 3, 172]
abbrev dktX4_isDigit_1 : List UInt8 := dkwX4_isDigit_1 ++ []
def dkwX4_isDigit_0 : List UInt8 := [27, 42, 180, 0, 90, 162, 0, 29, 42, 180, 0, 7, 27, 51, 16, 48, 161, 0, 18, 42, 180, 0, 7, 27]
abbrev dktX4_isDigit_0 : List UInt8 := dkwX4_isDigit_0 ++ dktX4_isDigit_1
theorem dksX4_isDigit_0 : cX4_isDigit.data.toList.drop 0 = dktX4_isDigit_0 := by decide +kernel
theorem dksX4_isDigit_1 : cX4_isDigit.data.toList.drop 24 = dktX4_isDigit_1 := dk_seg dksX4_isDigit_0 24 rfl rfl
theorem dX4_isDigit_0 : decode cX4_isDigit 0 = .ok (.iload_n 1, 1) := dk_27 (dk_at dksX4_isDigit_0 0 rfl rfl)
theorem dX4_isDigit_1 : decode cX4_isDigit 1 = .ok (.aload_n 0, 1) := dk_42 (dk_at dksX4_isDigit_0 1 rfl rfl)
theorem dX4_isDigit_2 : decode cX4_isDigit 2 = .ok (.getfield 90, 3) := dk_180 0 90 (dk_at dksX4_isDigit_0 2 rfl rfl)
theorem dX4_isDigit_5 : decode cX4_isDigit 5 = .ok (.if_icmp .ge 29, 3) := dk_162 0 29 (dk_at dksX4_isDigit_0 5 rfl rfl)
theorem dX4_isDigit_8 : decode cX4_isDigit 8 = .ok (.aload_n 0, 1) := dk_42 (dk_at dksX4_isDigit_0 8 rfl rfl)
theorem dX4_isDigit_9 : decode cX4_isDigit 9 = .ok (.getfield 7, 3) := dk_180 0 7 (dk_at dksX4_isDigit_0 9 rfl rfl)
theorem dX4_isDigit_12 : decode cX4_isDigit 12 = .ok (.iload_n 1, 1) := dk_27 (dk_at dksX4_isDigit_0 12 rfl rfl)
theorem dX4_isDigit_13 : decode cX4_isDigit 13 = .ok (.baload, 1) := dk_51 (dk_at dksX4_isDigit_0 13 rfl rfl)
theorem dX4_isDigit_14 : decode cX4_isDigit 14 = .ok (.bipush 48, 2) := dk_16 48 (dk_at dksX4_isDigit_0 14 rfl rfl)
theorem dX4_isDigit_16 : decode cX4_isDigit 16 = .ok (.if_icmp .lt 18, 3) := dk_161 0 18 (dk_at dksX4_isDigit_0 16 rfl rfl)
theorem dX4_isDigit_19 : decode cX4_isDigit 19 = .ok (.aload_n 0, 1) := dk_42 (dk_at dksX4_isDigit_0 19 rfl rfl)
theorem dX4_isDigit_20 : decode cX4_isDigit 20 = .ok (.getfield 7, 3) := dk_180 0 7 (dk_at dksX4_isDigit_0 20 rfl rfl)
theorem dX4_isDigit_23 : decode cX4_isDigit 23 = .ok (.iload_n 1, 1) := dk_27 (dk_at dksX4_isDigit_0 23 rfl rfl)
theorem dX4_isDigit_24 : decode cX4_isDigit 24 = .ok (.baload, 1) := dk_51 (dk_at dksX4_isDigit_1 0 rfl rfl)
theorem dX4_isDigit_25 : decode cX4_isDigit 25 = .ok (.bipush 57, 2) := dk_16 57 (dk_at dksX4_isDigit_1 1 rfl rfl)
theorem dX4_isDigit_27 : decode cX4_isDigit 27 = .ok (.if_icmp .gt 7, 3) := dk_163 0 7 (dk_at dksX4_isDigit_1 3 rfl rfl)
theorem dX4_isDigit_30 : decode cX4_isDigit 30 = .ok (.iconst 1, 1) := dk_4 (dk_at dksX4_isDigit_1 6 rfl rfl)
theorem dX4_isDigit_31 : decode cX4_isDigit 31 = .ok (.goto 4, 3) := dk_167 0 4 (dk_at dksX4_isDigit_1 7 rfl rfl)
theorem dX4_isDigit_34 : decode cX4_isDigit 34 = .ok (.iconst 0, 1) := dk_3 (dk_at dksX4_isDigit_1 10 rfl rfl)
theorem dX4_isDigit_35 : decode cX4_isDigit 35 = .ok (.ireturn, 1) := dk_172 (dk_at dksX4_isDigit_1 11 rfl rfl)
abbrev cX4_in : ByteArray := prog_20_method_2_code
def yX4_in : MethodName := ⟨RX4, "in", "(JJJ)Z"⟩
def dkwX4_in_0 : List UInt8 := [30, 32, 148, 155, 0, 14, 30, 22, 4, 148, 157, 0, 7, 4, 167, 0, 4, 3, 172]
abbrev dktX4_in_0 : List UInt8 := dkwX4_in_0 ++ []
theorem dksX4_in_0 : cX4_in.data.toList.drop 0 = dktX4_in_0 := by decide +kernel
theorem dX4_in_0 : decode cX4_in 0 = .ok (.lload_n 0, 1) := dk_30 (dk_at dksX4_in_0 0 rfl rfl)
theorem dX4_in_1 : decode cX4_in 1 = .ok (.lload_n 2, 1) := dk_32 (dk_at dksX4_in_0 1 rfl rfl)
theorem dX4_in_2 : decode cX4_in 2 = .ok (.lcmp, 1) := dk_148 (dk_at dksX4_in_0 2 rfl rfl)
theorem dX4_in_3 : decode cX4_in 3 = .ok (.ifCond .lt 14, 3) := dk_155 0 14 (dk_at dksX4_in_0 3 rfl rfl)
theorem dX4_in_6 : decode cX4_in 6 = .ok (.lload_n 0, 1) := dk_30 (dk_at dksX4_in_0 6 rfl rfl)
theorem dX4_in_7 : decode cX4_in 7 = .ok (.lload 4, 2) := dk_22 4 (dk_at dksX4_in_0 7 rfl rfl)
theorem dX4_in_9 : decode cX4_in 9 = .ok (.lcmp, 1) := dk_148 (dk_at dksX4_in_0 9 rfl rfl)
theorem dX4_in_10 : decode cX4_in 10 = .ok (.ifCond .gt 7, 3) := dk_157 0 7 (dk_at dksX4_in_0 10 rfl rfl)
theorem dX4_in_13 : decode cX4_in 13 = .ok (.iconst 1, 1) := dk_4 (dk_at dksX4_in_0 13 rfl rfl)
theorem dX4_in_14 : decode cX4_in 14 = .ok (.goto 4, 3) := dk_167 0 4 (dk_at dksX4_in_0 14 rfl rfl)
theorem dX4_in_17 : decode cX4_in 17 = .ok (.iconst 0, 1) := dk_3 (dk_at dksX4_in_0 17 rfl rfl)
theorem dX4_in_18 : decode cX4_in 18 = .ok (.ireturn, 1) := dk_172 (dk_at dksX4_in_0 18 rfl rfl)
abbrev cX4_isFarHere : ByteArray := prog_20_method_32_code
def yX4_isFarHere : MethodName := ⟨RX4, "isFarHere", "()Z"⟩
def dkwX4_isFarHere_1 : List UInt8 := [16, 34, 42, 180, 0, 125, 96, 3, 16, 9, 182, 0, 228, 172]
abbrev dktX4_isFarHere_1 : List UInt8 := dkwX4_isFarHere_1 ++ []
def dkwX4_isFarHere_0 : List UInt8 := [42, 182, 0, 115, 42, 3, 42, 180, 0, 26, 3, 46, 4, 100, 182, 0, 177, 154, 0, 5, 3, 172, 42]
abbrev dktX4_isFarHere_0 : List UInt8 := dkwX4_isFarHere_0 ++ dktX4_isFarHere_1
theorem dksX4_isFarHere_0 : cX4_isFarHere.data.toList.drop 0 = dktX4_isFarHere_0 := by decide +kernel
theorem dksX4_isFarHere_1 : cX4_isFarHere.data.toList.drop 23 = dktX4_isFarHere_1 := dk_seg dksX4_isFarHere_0 23 rfl rfl
theorem dX4_isFarHere_0 : decode cX4_isFarHere 0 = .ok (.aload_n 0, 1) := dk_42 (dk_at dksX4_isFarHere_0 0 rfl rfl)
theorem dX4_isFarHere_1 : decode cX4_isFarHere 1 = .ok (.invokevirtual 115, 3) := dk_182 0 115 (dk_at dksX4_isFarHere_0 1 rfl rfl)
theorem dX4_isFarHere_4 : decode cX4_isFarHere 4 = .ok (.aload_n 0, 1) := dk_42 (dk_at dksX4_isFarHere_0 4 rfl rfl)
theorem dX4_isFarHere_5 : decode cX4_isFarHere 5 = .ok (.iconst 0, 1) := dk_3 (dk_at dksX4_isFarHere_0 5 rfl rfl)
theorem dX4_isFarHere_6 : decode cX4_isFarHere 6 = .ok (.aload_n 0, 1) := dk_42 (dk_at dksX4_isFarHere_0 6 rfl rfl)
theorem dX4_isFarHere_7 : decode cX4_isFarHere 7 = .ok (.getfield 26, 3) := dk_180 0 26 (dk_at dksX4_isFarHere_0 7 rfl rfl)
theorem dX4_isFarHere_10 : decode cX4_isFarHere 10 = .ok (.iconst 0, 1) := dk_3 (dk_at dksX4_isFarHere_0 10 rfl rfl)
theorem dX4_isFarHere_11 : decode cX4_isFarHere 11 = .ok (.iaload, 1) := dk_46 (dk_at dksX4_isFarHere_0 11 rfl rfl)
theorem dX4_isFarHere_12 : decode cX4_isFarHere 12 = .ok (.iconst 1, 1) := dk_4 (dk_at dksX4_isFarHere_0 12 rfl rfl)
theorem dX4_isFarHere_13 : decode cX4_isFarHere 13 = .ok (.isub, 1) := dk_100 (dk_at dksX4_isFarHere_0 13 rfl rfl)
theorem dX4_isFarHere_14 : decode cX4_isFarHere 14 = .ok (.invokevirtual 177, 3) := dk_182 0 177 (dk_at dksX4_isFarHere_0 14 rfl rfl)
theorem dX4_isFarHere_17 : decode cX4_isFarHere 17 = .ok (.ifCond .ne 5, 3) := dk_154 0 5 (dk_at dksX4_isFarHere_0 17 rfl rfl)
theorem dX4_isFarHere_20 : decode cX4_isFarHere 20 = .ok (.iconst 0, 1) := dk_3 (dk_at dksX4_isFarHere_0 20 rfl rfl)
theorem dX4_isFarHere_21 : decode cX4_isFarHere 21 = .ok (.ireturn, 1) := dk_172 (dk_at dksX4_isFarHere_0 21 rfl rfl)
theorem dX4_isFarHere_22 : decode cX4_isFarHere 22 = .ok (.aload_n 0, 1) := dk_42 (dk_at dksX4_isFarHere_0 22 rfl rfl)
theorem dX4_isFarHere_23 : decode cX4_isFarHere 23 = .ok (.bipush 34, 2) := dk_16 34 (dk_at dksX4_isFarHere_1 0 rfl rfl)
theorem dX4_isFarHere_25 : decode cX4_isFarHere 25 = .ok (.aload_n 0, 1) := dk_42 (dk_at dksX4_isFarHere_1 2 rfl rfl)
theorem dX4_isFarHere_26 : decode cX4_isFarHere 26 = .ok (.getfield 125, 3) := dk_180 0 125 (dk_at dksX4_isFarHere_1 3 rfl rfl)
theorem dX4_isFarHere_29 : decode cX4_isFarHere 29 = .ok (.iadd, 1) := dk_96 (dk_at dksX4_isFarHere_1 6 rfl rfl)
theorem dX4_isFarHere_30 : decode cX4_isFarHere 30 = .ok (.iconst 0, 1) := dk_3 (dk_at dksX4_isFarHere_1 7 rfl rfl)
theorem dX4_isFarHere_31 : decode cX4_isFarHere 31 = .ok (.bipush 9, 2) := dk_16 9 (dk_at dksX4_isFarHere_1 8 rfl rfl)
theorem dX4_isFarHere_33 : decode cX4_isFarHere 33 = .ok (.invokevirtual 228, 3) := dk_182 0 228 (dk_at dksX4_isFarHere_1 10 rfl rfl)
theorem dX4_isFarHere_36 : decode cX4_isFarHere 36 = .ok (.ireturn, 1) := dk_172 (dk_at dksX4_isFarHere_1 13 rfl rfl)
abbrev cX4_isDoorHere : ByteArray := prog_20_method_33_code
def yX4_isDoorHere : MethodName := ⟨RX4, "isDoorHere", "(II)Z"⟩
def dkwX4_isDoorHere_11 : List UInt8 := [180, 0, 26, 4, 92, 46, 4, 96, 79, 4, 172]
abbrev dktX4_isDoorHere_11 : List UInt8 := dkwX4_isDoorHere_11 ++ []
def dkwX4_isDoorHere_10 : List UInt8 := [21, 5, 154, 0, 11, 42, 4, 21, 4, 182, 0, 121, 172, 42, 180, 0, 26, 29, 5, 96, 28, 79, 42]
abbrev dktX4_isDoorHere_10 : List UInt8 := dkwX4_isDoorHere_10 ++ dktX4_isDoorHere_11
def dkwX4_isDoorHere_9 : List UInt8 := [21, 5, 153, 0, 12, 21, 8, 154, 0, 7, 4, 167, 0, 4, 3, 54, 5, 132, 6, 1, 167, 255, 137]
abbrev dktX4_isDoorHere_9 : List UInt8 := dkwX4_isDoorHere_9 ++ dktX4_isDoorHere_10
def dkwX4_isDoorHere_8 : List UInt8 := [180, 0, 26, 21, 7, 4, 96, 46, 42, 180, 0, 26, 29, 46, 160, 0, 7, 4, 167, 0, 4, 3, 54, 8]
abbrev dktX4_isDoorHere_8 : List UInt8 := dkwX4_isDoorHere_8 ++ dktX4_isDoorHere_9
def dkwX4_isDoorHere_7 : List UInt8 := [96, 46, 159, 0, 39, 42, 180, 0, 26, 21, 7, 46, 42, 180, 0, 26, 29, 4, 96, 46, 160, 0, 25, 42]
abbrev dktX4_isDoorHere_7 : List UInt8 := dkwX4_isDoorHere_7 ++ dktX4_isDoorHere_8
def dkwX4_isDoorHere_6 : List UInt8 := [42, 180, 0, 26, 29, 46, 160, 0, 23, 42, 180, 0, 26, 21, 7, 4, 96, 46, 42, 180, 0, 26, 29, 4]
abbrev dktX4_isDoorHere_6 : List UInt8 := dkwX4_isDoorHere_6 ++ dktX4_isDoorHere_7
def dkwX4_isDoorHere_5 : List UInt8 := [180, 0, 26, 4, 46, 162, 0, 114, 16, 42, 6, 21, 6, 104, 96, 54, 7, 42, 180, 0, 26, 21, 7, 46]
abbrev dktX4_isDoorHere_5 : List UInt8 := dkwX4_isDoorHere_5 ++ dktX4_isDoorHere_6
def dkwX4_isDoorHere_4 : List UInt8 := [180, 0, 26, 29, 4, 96, 46, 159, 0, 7, 4, 167, 0, 4, 3, 54, 5, 3, 54, 6, 21, 6, 42]
abbrev dktX4_isDoorHere_4 : List UInt8 := dkwX4_isDoorHere_4 ++ dktX4_isDoorHere_5
def dkwX4_isDoorHere_3 : List UInt8 := [180, 0, 26, 3, 46, 4, 100, 182, 0, 228, 154, 0, 5, 3, 172, 42, 180, 0, 26, 29, 46, 42]
abbrev dktX4_isDoorHere_3 : List UInt8 := dkwX4_isDoorHere_3 ++ dktX4_isDoorHere_4
def dkwX4_isDoorHere_2 : List UInt8 := [154, 0, 5, 3, 172, 42, 182, 0, 103, 87, 42, 180, 0, 100, 54, 4, 42, 29, 4, 96, 3, 42]
abbrev dktX4_isDoorHere_2 : List UInt8 := dkwX4_isDoorHere_2 ++ dktX4_isDoorHere_3
def dkwX4_isDoorHere_1 : List UInt8 := [6, 42, 180, 0, 26, 4, 46, 104, 96, 62, 42, 29, 3, 42, 180, 0, 26, 3, 46, 4, 100, 182, 0, 228]
abbrev dktX4_isDoorHere_1 : List UInt8 := dkwX4_isDoorHere_1 ++ dktX4_isDoorHere_2
def dkwX4_isDoorHere_0 : List UInt8 := [42, 180, 0, 26, 4, 46, 16, 14, 160, 0, 10, 42, 7, 27, 182, 0, 121, 172, 42, 182, 0, 115, 16, 42]
abbrev dktX4_isDoorHere_0 : List UInt8 := dkwX4_isDoorHere_0 ++ dktX4_isDoorHere_1
theorem dksX4_isDoorHere_0 : cX4_isDoorHere.data.toList.drop 0 = dktX4_isDoorHere_0 := by decide +kernel
theorem dksX4_isDoorHere_1 : cX4_isDoorHere.data.toList.drop 24 = dktX4_isDoorHere_1 := dk_seg dksX4_isDoorHere_0 24 rfl rfl
theorem dksX4_isDoorHere_2 : cX4_isDoorHere.data.toList.drop 48 = dktX4_isDoorHere_2 := dk_seg dksX4_isDoorHere_1 24 rfl rfl
theorem dksX4_isDoorHere_3 : cX4_isDoorHere.data.toList.drop 70 = dktX4_isDoorHere_3 := dk_seg dksX4_isDoorHere_2 22 rfl rfl
theorem dksX4_isDoorHere_4 : cX4_isDoorHere.data.toList.drop 92 = dktX4_isDoorHere_4 := dk_seg dksX4_isDoorHere_3 22 rfl rfl
theorem dksX4_isDoorHere_5 : cX4_isDoorHere.data.toList.drop 115 = dktX4_isDoorHere_5 := dk_seg dksX4_isDoorHere_4 23 rfl rfl
theorem dksX4_isDoorHere_6 : cX4_isDoorHere.data.toList.drop 139 = dktX4_isDoorHere_6 := dk_seg dksX4_isDoorHere_5 24 rfl rfl
theorem dksX4_isDoorHere_7 : cX4_isDoorHere.data.toList.drop 163 = dktX4_isDoorHere_7 := dk_seg dksX4_isDoorHere_6 24 rfl rfl
theorem dksX4_isDoorHere_8 : cX4_isDoorHere.data.toList.drop 187 = dktX4_isDoorHere_8 := dk_seg dksX4_isDoorHere_7 24 rfl rfl
theorem dksX4_isDoorHere_9 : cX4_isDoorHere.data.toList.drop 211 = dktX4_isDoorHere_9 := dk_seg dksX4_isDoorHere_8 24 rfl rfl
theorem dksX4_isDoorHere_10 : cX4_isDoorHere.data.toList.drop 234 = dktX4_isDoorHere_10 := dk_seg dksX4_isDoorHere_9 23 rfl rfl
theorem dksX4_isDoorHere_11 : cX4_isDoorHere.data.toList.drop 257 = dktX4_isDoorHere_11 := dk_seg dksX4_isDoorHere_10 23 rfl rfl
theorem dX4_isDoorHere_0 : decode cX4_isDoorHere 0 = .ok (.aload_n 0, 1) := dk_42 (dk_at dksX4_isDoorHere_0 0 rfl rfl)
theorem dX4_isDoorHere_1 : decode cX4_isDoorHere 1 = .ok (.getfield 26, 3) := dk_180 0 26 (dk_at dksX4_isDoorHere_0 1 rfl rfl)
theorem dX4_isDoorHere_4 : decode cX4_isDoorHere 4 = .ok (.iconst 1, 1) := dk_4 (dk_at dksX4_isDoorHere_0 4 rfl rfl)
theorem dX4_isDoorHere_5 : decode cX4_isDoorHere 5 = .ok (.iaload, 1) := dk_46 (dk_at dksX4_isDoorHere_0 5 rfl rfl)
theorem dX4_isDoorHere_6 : decode cX4_isDoorHere 6 = .ok (.bipush 14, 2) := dk_16 14 (dk_at dksX4_isDoorHere_0 6 rfl rfl)
theorem dX4_isDoorHere_8 : decode cX4_isDoorHere 8 = .ok (.if_icmp .ne 10, 3) := dk_160 0 10 (dk_at dksX4_isDoorHere_0 8 rfl rfl)
theorem dX4_isDoorHere_11 : decode cX4_isDoorHere 11 = .ok (.aload_n 0, 1) := dk_42 (dk_at dksX4_isDoorHere_0 11 rfl rfl)
theorem dX4_isDoorHere_12 : decode cX4_isDoorHere 12 = .ok (.iconst 4, 1) := dk_7 (dk_at dksX4_isDoorHere_0 12 rfl rfl)
theorem dX4_isDoorHere_13 : decode cX4_isDoorHere 13 = .ok (.iload_n 1, 1) := dk_27 (dk_at dksX4_isDoorHere_0 13 rfl rfl)
theorem dX4_isDoorHere_14 : decode cX4_isDoorHere 14 = .ok (.invokevirtual 121, 3) := dk_182 0 121 (dk_at dksX4_isDoorHere_0 14 rfl rfl)
theorem dX4_isDoorHere_17 : decode cX4_isDoorHere 17 = .ok (.ireturn, 1) := dk_172 (dk_at dksX4_isDoorHere_0 17 rfl rfl)
theorem dX4_isDoorHere_18 : decode cX4_isDoorHere 18 = .ok (.aload_n 0, 1) := dk_42 (dk_at dksX4_isDoorHere_0 18 rfl rfl)
theorem dX4_isDoorHere_19 : decode cX4_isDoorHere 19 = .ok (.invokevirtual 115, 3) := dk_182 0 115 (dk_at dksX4_isDoorHere_0 19 rfl rfl)
theorem dX4_isDoorHere_22 : decode cX4_isDoorHere 22 = .ok (.bipush 42, 2) := dk_16 42 (dk_at dksX4_isDoorHere_0 22 rfl rfl)
theorem dX4_isDoorHere_24 : decode cX4_isDoorHere 24 = .ok (.iconst 3, 1) := dk_6 (dk_at dksX4_isDoorHere_1 0 rfl rfl)
theorem dX4_isDoorHere_25 : decode cX4_isDoorHere 25 = .ok (.aload_n 0, 1) := dk_42 (dk_at dksX4_isDoorHere_1 1 rfl rfl)
theorem dX4_isDoorHere_26 : decode cX4_isDoorHere 26 = .ok (.getfield 26, 3) := dk_180 0 26 (dk_at dksX4_isDoorHere_1 2 rfl rfl)
theorem dX4_isDoorHere_29 : decode cX4_isDoorHere 29 = .ok (.iconst 1, 1) := dk_4 (dk_at dksX4_isDoorHere_1 5 rfl rfl)
theorem dX4_isDoorHere_30 : decode cX4_isDoorHere 30 = .ok (.iaload, 1) := dk_46 (dk_at dksX4_isDoorHere_1 6 rfl rfl)
theorem dX4_isDoorHere_31 : decode cX4_isDoorHere 31 = .ok (.imul, 1) := dk_104 (dk_at dksX4_isDoorHere_1 7 rfl rfl)
theorem dX4_isDoorHere_32 : decode cX4_isDoorHere 32 = .ok (.iadd, 1) := dk_96 (dk_at dksX4_isDoorHere_1 8 rfl rfl)
theorem dX4_isDoorHere_33 : decode cX4_isDoorHere 33 = .ok (.istore_n 3, 1) := dk_62 (dk_at dksX4_isDoorHere_1 9 rfl rfl)
theorem dX4_isDoorHere_34 : decode cX4_isDoorHere 34 = .ok (.aload_n 0, 1) := dk_42 (dk_at dksX4_isDoorHere_1 10 rfl rfl)
theorem dX4_isDoorHere_35 : decode cX4_isDoorHere 35 = .ok (.iload_n 3, 1) := dk_29 (dk_at dksX4_isDoorHere_1 11 rfl rfl)
theorem dX4_isDoorHere_36 : decode cX4_isDoorHere 36 = .ok (.iconst 0, 1) := dk_3 (dk_at dksX4_isDoorHere_1 12 rfl rfl)
theorem dX4_isDoorHere_37 : decode cX4_isDoorHere 37 = .ok (.aload_n 0, 1) := dk_42 (dk_at dksX4_isDoorHere_1 13 rfl rfl)
theorem dX4_isDoorHere_38 : decode cX4_isDoorHere 38 = .ok (.getfield 26, 3) := dk_180 0 26 (dk_at dksX4_isDoorHere_1 14 rfl rfl)
theorem dX4_isDoorHere_41 : decode cX4_isDoorHere 41 = .ok (.iconst 0, 1) := dk_3 (dk_at dksX4_isDoorHere_1 17 rfl rfl)
theorem dX4_isDoorHere_42 : decode cX4_isDoorHere 42 = .ok (.iaload, 1) := dk_46 (dk_at dksX4_isDoorHere_1 18 rfl rfl)
theorem dX4_isDoorHere_43 : decode cX4_isDoorHere 43 = .ok (.iconst 1, 1) := dk_4 (dk_at dksX4_isDoorHere_1 19 rfl rfl)
theorem dX4_isDoorHere_44 : decode cX4_isDoorHere 44 = .ok (.isub, 1) := dk_100 (dk_at dksX4_isDoorHere_1 20 rfl rfl)
theorem dX4_isDoorHere_45 : decode cX4_isDoorHere 45 = .ok (.invokevirtual 228, 3) := dk_182 0 228 (dk_at dksX4_isDoorHere_1 21 rfl rfl)
theorem dX4_isDoorHere_48 : decode cX4_isDoorHere 48 = .ok (.ifCond .ne 5, 3) := dk_154 0 5 (dk_at dksX4_isDoorHere_2 0 rfl rfl)
theorem dX4_isDoorHere_51 : decode cX4_isDoorHere 51 = .ok (.iconst 0, 1) := dk_3 (dk_at dksX4_isDoorHere_2 3 rfl rfl)
theorem dX4_isDoorHere_52 : decode cX4_isDoorHere 52 = .ok (.ireturn, 1) := dk_172 (dk_at dksX4_isDoorHere_2 4 rfl rfl)
theorem dX4_isDoorHere_53 : decode cX4_isDoorHere 53 = .ok (.aload_n 0, 1) := dk_42 (dk_at dksX4_isDoorHere_2 5 rfl rfl)
theorem dX4_isDoorHere_54 : decode cX4_isDoorHere 54 = .ok (.invokevirtual 103, 3) := dk_182 0 103 (dk_at dksX4_isDoorHere_2 6 rfl rfl)
theorem dX4_isDoorHere_57 : decode cX4_isDoorHere 57 = .ok (.pop, 1) := dk_87 (dk_at dksX4_isDoorHere_2 9 rfl rfl)
theorem dX4_isDoorHere_58 : decode cX4_isDoorHere 58 = .ok (.aload_n 0, 1) := dk_42 (dk_at dksX4_isDoorHere_2 10 rfl rfl)
theorem dX4_isDoorHere_59 : decode cX4_isDoorHere 59 = .ok (.getfield 100, 3) := dk_180 0 100 (dk_at dksX4_isDoorHere_2 11 rfl rfl)
theorem dX4_isDoorHere_62 : decode cX4_isDoorHere 62 = .ok (.istore 4, 2) := dk_54 4 (dk_at dksX4_isDoorHere_2 14 rfl rfl)
theorem dX4_isDoorHere_64 : decode cX4_isDoorHere 64 = .ok (.aload_n 0, 1) := dk_42 (dk_at dksX4_isDoorHere_2 16 rfl rfl)
theorem dX4_isDoorHere_65 : decode cX4_isDoorHere 65 = .ok (.iload_n 3, 1) := dk_29 (dk_at dksX4_isDoorHere_2 17 rfl rfl)
theorem dX4_isDoorHere_66 : decode cX4_isDoorHere 66 = .ok (.iconst 1, 1) := dk_4 (dk_at dksX4_isDoorHere_2 18 rfl rfl)
theorem dX4_isDoorHere_67 : decode cX4_isDoorHere 67 = .ok (.iadd, 1) := dk_96 (dk_at dksX4_isDoorHere_2 19 rfl rfl)
theorem dX4_isDoorHere_68 : decode cX4_isDoorHere 68 = .ok (.iconst 0, 1) := dk_3 (dk_at dksX4_isDoorHere_2 20 rfl rfl)
theorem dX4_isDoorHere_69 : decode cX4_isDoorHere 69 = .ok (.aload_n 0, 1) := dk_42 (dk_at dksX4_isDoorHere_2 21 rfl rfl)
theorem dX4_isDoorHere_70 : decode cX4_isDoorHere 70 = .ok (.getfield 26, 3) := dk_180 0 26 (dk_at dksX4_isDoorHere_3 0 rfl rfl)
theorem dX4_isDoorHere_73 : decode cX4_isDoorHere 73 = .ok (.iconst 0, 1) := dk_3 (dk_at dksX4_isDoorHere_3 3 rfl rfl)
theorem dX4_isDoorHere_74 : decode cX4_isDoorHere 74 = .ok (.iaload, 1) := dk_46 (dk_at dksX4_isDoorHere_3 4 rfl rfl)
theorem dX4_isDoorHere_75 : decode cX4_isDoorHere 75 = .ok (.iconst 1, 1) := dk_4 (dk_at dksX4_isDoorHere_3 5 rfl rfl)
theorem dX4_isDoorHere_76 : decode cX4_isDoorHere 76 = .ok (.isub, 1) := dk_100 (dk_at dksX4_isDoorHere_3 6 rfl rfl)
theorem dX4_isDoorHere_77 : decode cX4_isDoorHere 77 = .ok (.invokevirtual 228, 3) := dk_182 0 228 (dk_at dksX4_isDoorHere_3 7 rfl rfl)
theorem dX4_isDoorHere_80 : decode cX4_isDoorHere 80 = .ok (.ifCond .ne 5, 3) := dk_154 0 5 (dk_at dksX4_isDoorHere_3 10 rfl rfl)
theorem dX4_isDoorHere_83 : decode cX4_isDoorHere 83 = .ok (.iconst 0, 1) := dk_3 (dk_at dksX4_isDoorHere_3 13 rfl rfl)
theorem dX4_isDoorHere_84 : decode cX4_isDoorHere 84 = .ok (.ireturn, 1) := dk_172 (dk_at dksX4_isDoorHere_3 14 rfl rfl)
theorem dX4_isDoorHere_85 : decode cX4_isDoorHere 85 = .ok (.aload_n 0, 1) := dk_42 (dk_at dksX4_isDoorHere_3 15 rfl rfl)
theorem dX4_isDoorHere_86 : decode cX4_isDoorHere 86 = .ok (.getfield 26, 3) := dk_180 0 26 (dk_at dksX4_isDoorHere_3 16 rfl rfl)
theorem dX4_isDoorHere_89 : decode cX4_isDoorHere 89 = .ok (.iload_n 3, 1) := dk_29 (dk_at dksX4_isDoorHere_3 19 rfl rfl)
theorem dX4_isDoorHere_90 : decode cX4_isDoorHere 90 = .ok (.iaload, 1) := dk_46 (dk_at dksX4_isDoorHere_3 20 rfl rfl)
theorem dX4_isDoorHere_91 : decode cX4_isDoorHere 91 = .ok (.aload_n 0, 1) := dk_42 (dk_at dksX4_isDoorHere_3 21 rfl rfl)
theorem dX4_isDoorHere_92 : decode cX4_isDoorHere 92 = .ok (.getfield 26, 3) := dk_180 0 26 (dk_at dksX4_isDoorHere_4 0 rfl rfl)
theorem dX4_isDoorHere_95 : decode cX4_isDoorHere 95 = .ok (.iload_n 3, 1) := dk_29 (dk_at dksX4_isDoorHere_4 3 rfl rfl)
theorem dX4_isDoorHere_96 : decode cX4_isDoorHere 96 = .ok (.iconst 1, 1) := dk_4 (dk_at dksX4_isDoorHere_4 4 rfl rfl)
theorem dX4_isDoorHere_97 : decode cX4_isDoorHere 97 = .ok (.iadd, 1) := dk_96 (dk_at dksX4_isDoorHere_4 5 rfl rfl)
theorem dX4_isDoorHere_98 : decode cX4_isDoorHere 98 = .ok (.iaload, 1) := dk_46 (dk_at dksX4_isDoorHere_4 6 rfl rfl)
theorem dX4_isDoorHere_99 : decode cX4_isDoorHere 99 = .ok (.if_icmp .eq 7, 3) := dk_159 0 7 (dk_at dksX4_isDoorHere_4 7 rfl rfl)
theorem dX4_isDoorHere_102 : decode cX4_isDoorHere 102 = .ok (.iconst 1, 1) := dk_4 (dk_at dksX4_isDoorHere_4 10 rfl rfl)
theorem dX4_isDoorHere_103 : decode cX4_isDoorHere 103 = .ok (.goto 4, 3) := dk_167 0 4 (dk_at dksX4_isDoorHere_4 11 rfl rfl)
theorem dX4_isDoorHere_106 : decode cX4_isDoorHere 106 = .ok (.iconst 0, 1) := dk_3 (dk_at dksX4_isDoorHere_4 14 rfl rfl)
theorem dX4_isDoorHere_107 : decode cX4_isDoorHere 107 = .ok (.istore 5, 2) := dk_54 5 (dk_at dksX4_isDoorHere_4 15 rfl rfl)
theorem dX4_isDoorHere_109 : decode cX4_isDoorHere 109 = .ok (.iconst 0, 1) := dk_3 (dk_at dksX4_isDoorHere_4 17 rfl rfl)
theorem dX4_isDoorHere_110 : decode cX4_isDoorHere 110 = .ok (.istore 6, 2) := dk_54 6 (dk_at dksX4_isDoorHere_4 18 rfl rfl)
theorem dX4_isDoorHere_112 : decode cX4_isDoorHere 112 = .ok (.iload 6, 2) := dk_21 6 (dk_at dksX4_isDoorHere_4 20 rfl rfl)
theorem dX4_isDoorHere_114 : decode cX4_isDoorHere 114 = .ok (.aload_n 0, 1) := dk_42 (dk_at dksX4_isDoorHere_4 22 rfl rfl)
theorem dX4_isDoorHere_115 : decode cX4_isDoorHere 115 = .ok (.getfield 26, 3) := dk_180 0 26 (dk_at dksX4_isDoorHere_5 0 rfl rfl)
theorem dX4_isDoorHere_118 : decode cX4_isDoorHere 118 = .ok (.iconst 1, 1) := dk_4 (dk_at dksX4_isDoorHere_5 3 rfl rfl)
theorem dX4_isDoorHere_119 : decode cX4_isDoorHere 119 = .ok (.iaload, 1) := dk_46 (dk_at dksX4_isDoorHere_5 4 rfl rfl)
theorem dX4_isDoorHere_120 : decode cX4_isDoorHere 120 = .ok (.if_icmp .ge 114, 3) := dk_162 0 114 (dk_at dksX4_isDoorHere_5 5 rfl rfl)
theorem dX4_isDoorHere_123 : decode cX4_isDoorHere 123 = .ok (.bipush 42, 2) := dk_16 42 (dk_at dksX4_isDoorHere_5 8 rfl rfl)
theorem dX4_isDoorHere_125 : decode cX4_isDoorHere 125 = .ok (.iconst 3, 1) := dk_6 (dk_at dksX4_isDoorHere_5 10 rfl rfl)
theorem dX4_isDoorHere_126 : decode cX4_isDoorHere 126 = .ok (.iload 6, 2) := dk_21 6 (dk_at dksX4_isDoorHere_5 11 rfl rfl)
theorem dX4_isDoorHere_128 : decode cX4_isDoorHere 128 = .ok (.imul, 1) := dk_104 (dk_at dksX4_isDoorHere_5 13 rfl rfl)
theorem dX4_isDoorHere_129 : decode cX4_isDoorHere 129 = .ok (.iadd, 1) := dk_96 (dk_at dksX4_isDoorHere_5 14 rfl rfl)
theorem dX4_isDoorHere_130 : decode cX4_isDoorHere 130 = .ok (.istore 7, 2) := dk_54 7 (dk_at dksX4_isDoorHere_5 15 rfl rfl)
theorem dX4_isDoorHere_132 : decode cX4_isDoorHere 132 = .ok (.aload_n 0, 1) := dk_42 (dk_at dksX4_isDoorHere_5 17 rfl rfl)
theorem dX4_isDoorHere_133 : decode cX4_isDoorHere 133 = .ok (.getfield 26, 3) := dk_180 0 26 (dk_at dksX4_isDoorHere_5 18 rfl rfl)
theorem dX4_isDoorHere_136 : decode cX4_isDoorHere 136 = .ok (.iload 7, 2) := dk_21 7 (dk_at dksX4_isDoorHere_5 21 rfl rfl)
theorem dX4_isDoorHere_138 : decode cX4_isDoorHere 138 = .ok (.iaload, 1) := dk_46 (dk_at dksX4_isDoorHere_5 23 rfl rfl)
theorem dX4_isDoorHere_139 : decode cX4_isDoorHere 139 = .ok (.aload_n 0, 1) := dk_42 (dk_at dksX4_isDoorHere_6 0 rfl rfl)
theorem dX4_isDoorHere_140 : decode cX4_isDoorHere 140 = .ok (.getfield 26, 3) := dk_180 0 26 (dk_at dksX4_isDoorHere_6 1 rfl rfl)
theorem dX4_isDoorHere_143 : decode cX4_isDoorHere 143 = .ok (.iload_n 3, 1) := dk_29 (dk_at dksX4_isDoorHere_6 4 rfl rfl)
theorem dX4_isDoorHere_144 : decode cX4_isDoorHere 144 = .ok (.iaload, 1) := dk_46 (dk_at dksX4_isDoorHere_6 5 rfl rfl)
theorem dX4_isDoorHere_145 : decode cX4_isDoorHere 145 = .ok (.if_icmp .ne 23, 3) := dk_160 0 23 (dk_at dksX4_isDoorHere_6 6 rfl rfl)
theorem dX4_isDoorHere_148 : decode cX4_isDoorHere 148 = .ok (.aload_n 0, 1) := dk_42 (dk_at dksX4_isDoorHere_6 9 rfl rfl)
theorem dX4_isDoorHere_149 : decode cX4_isDoorHere 149 = .ok (.getfield 26, 3) := dk_180 0 26 (dk_at dksX4_isDoorHere_6 10 rfl rfl)
theorem dX4_isDoorHere_152 : decode cX4_isDoorHere 152 = .ok (.iload 7, 2) := dk_21 7 (dk_at dksX4_isDoorHere_6 13 rfl rfl)
theorem dX4_isDoorHere_154 : decode cX4_isDoorHere 154 = .ok (.iconst 1, 1) := dk_4 (dk_at dksX4_isDoorHere_6 15 rfl rfl)
theorem dX4_isDoorHere_155 : decode cX4_isDoorHere 155 = .ok (.iadd, 1) := dk_96 (dk_at dksX4_isDoorHere_6 16 rfl rfl)
theorem dX4_isDoorHere_156 : decode cX4_isDoorHere 156 = .ok (.iaload, 1) := dk_46 (dk_at dksX4_isDoorHere_6 17 rfl rfl)
theorem dX4_isDoorHere_157 : decode cX4_isDoorHere 157 = .ok (.aload_n 0, 1) := dk_42 (dk_at dksX4_isDoorHere_6 18 rfl rfl)
theorem dX4_isDoorHere_158 : decode cX4_isDoorHere 158 = .ok (.getfield 26, 3) := dk_180 0 26 (dk_at dksX4_isDoorHere_6 19 rfl rfl)
theorem dX4_isDoorHere_161 : decode cX4_isDoorHere 161 = .ok (.iload_n 3, 1) := dk_29 (dk_at dksX4_isDoorHere_6 22 rfl rfl)
theorem dX4_isDoorHere_162 : decode cX4_isDoorHere 162 = .ok (.iconst 1, 1) := dk_4 (dk_at dksX4_isDoorHere_6 23 rfl rfl)
theorem dX4_isDoorHere_163 : decode cX4_isDoorHere 163 = .ok (.iadd, 1) := dk_96 (dk_at dksX4_isDoorHere_7 0 rfl rfl)
theorem dX4_isDoorHere_164 : decode cX4_isDoorHere 164 = .ok (.iaload, 1) := dk_46 (dk_at dksX4_isDoorHere_7 1 rfl rfl)
theorem dX4_isDoorHere_165 : decode cX4_isDoorHere 165 = .ok (.if_icmp .eq 39, 3) := dk_159 0 39 (dk_at dksX4_isDoorHere_7 2 rfl rfl)
theorem dX4_isDoorHere_168 : decode cX4_isDoorHere 168 = .ok (.aload_n 0, 1) := dk_42 (dk_at dksX4_isDoorHere_7 5 rfl rfl)
theorem dX4_isDoorHere_169 : decode cX4_isDoorHere 169 = .ok (.getfield 26, 3) := dk_180 0 26 (dk_at dksX4_isDoorHere_7 6 rfl rfl)
theorem dX4_isDoorHere_172 : decode cX4_isDoorHere 172 = .ok (.iload 7, 2) := dk_21 7 (dk_at dksX4_isDoorHere_7 9 rfl rfl)
theorem dX4_isDoorHere_174 : decode cX4_isDoorHere 174 = .ok (.iaload, 1) := dk_46 (dk_at dksX4_isDoorHere_7 11 rfl rfl)
theorem dX4_isDoorHere_175 : decode cX4_isDoorHere 175 = .ok (.aload_n 0, 1) := dk_42 (dk_at dksX4_isDoorHere_7 12 rfl rfl)
theorem dX4_isDoorHere_176 : decode cX4_isDoorHere 176 = .ok (.getfield 26, 3) := dk_180 0 26 (dk_at dksX4_isDoorHere_7 13 rfl rfl)
theorem dX4_isDoorHere_179 : decode cX4_isDoorHere 179 = .ok (.iload_n 3, 1) := dk_29 (dk_at dksX4_isDoorHere_7 16 rfl rfl)
theorem dX4_isDoorHere_180 : decode cX4_isDoorHere 180 = .ok (.iconst 1, 1) := dk_4 (dk_at dksX4_isDoorHere_7 17 rfl rfl)
theorem dX4_isDoorHere_181 : decode cX4_isDoorHere 181 = .ok (.iadd, 1) := dk_96 (dk_at dksX4_isDoorHere_7 18 rfl rfl)
theorem dX4_isDoorHere_182 : decode cX4_isDoorHere 182 = .ok (.iaload, 1) := dk_46 (dk_at dksX4_isDoorHere_7 19 rfl rfl)
theorem dX4_isDoorHere_183 : decode cX4_isDoorHere 183 = .ok (.if_icmp .ne 25, 3) := dk_160 0 25 (dk_at dksX4_isDoorHere_7 20 rfl rfl)
theorem dX4_isDoorHere_186 : decode cX4_isDoorHere 186 = .ok (.aload_n 0, 1) := dk_42 (dk_at dksX4_isDoorHere_7 23 rfl rfl)
theorem dX4_isDoorHere_187 : decode cX4_isDoorHere 187 = .ok (.getfield 26, 3) := dk_180 0 26 (dk_at dksX4_isDoorHere_8 0 rfl rfl)
theorem dX4_isDoorHere_190 : decode cX4_isDoorHere 190 = .ok (.iload 7, 2) := dk_21 7 (dk_at dksX4_isDoorHere_8 3 rfl rfl)
theorem dX4_isDoorHere_192 : decode cX4_isDoorHere 192 = .ok (.iconst 1, 1) := dk_4 (dk_at dksX4_isDoorHere_8 5 rfl rfl)
theorem dX4_isDoorHere_193 : decode cX4_isDoorHere 193 = .ok (.iadd, 1) := dk_96 (dk_at dksX4_isDoorHere_8 6 rfl rfl)
theorem dX4_isDoorHere_194 : decode cX4_isDoorHere 194 = .ok (.iaload, 1) := dk_46 (dk_at dksX4_isDoorHere_8 7 rfl rfl)
theorem dX4_isDoorHere_195 : decode cX4_isDoorHere 195 = .ok (.aload_n 0, 1) := dk_42 (dk_at dksX4_isDoorHere_8 8 rfl rfl)
theorem dX4_isDoorHere_196 : decode cX4_isDoorHere 196 = .ok (.getfield 26, 3) := dk_180 0 26 (dk_at dksX4_isDoorHere_8 9 rfl rfl)
theorem dX4_isDoorHere_199 : decode cX4_isDoorHere 199 = .ok (.iload_n 3, 1) := dk_29 (dk_at dksX4_isDoorHere_8 12 rfl rfl)
theorem dX4_isDoorHere_200 : decode cX4_isDoorHere 200 = .ok (.iaload, 1) := dk_46 (dk_at dksX4_isDoorHere_8 13 rfl rfl)
theorem dX4_isDoorHere_201 : decode cX4_isDoorHere 201 = .ok (.if_icmp .ne 7, 3) := dk_160 0 7 (dk_at dksX4_isDoorHere_8 14 rfl rfl)
theorem dX4_isDoorHere_204 : decode cX4_isDoorHere 204 = .ok (.iconst 1, 1) := dk_4 (dk_at dksX4_isDoorHere_8 17 rfl rfl)
theorem dX4_isDoorHere_205 : decode cX4_isDoorHere 205 = .ok (.goto 4, 3) := dk_167 0 4 (dk_at dksX4_isDoorHere_8 18 rfl rfl)
theorem dX4_isDoorHere_208 : decode cX4_isDoorHere 208 = .ok (.iconst 0, 1) := dk_3 (dk_at dksX4_isDoorHere_8 21 rfl rfl)
theorem dX4_isDoorHere_209 : decode cX4_isDoorHere 209 = .ok (.istore 8, 2) := dk_54 8 (dk_at dksX4_isDoorHere_8 22 rfl rfl)
theorem dX4_isDoorHere_211 : decode cX4_isDoorHere 211 = .ok (.iload 5, 2) := dk_21 5 (dk_at dksX4_isDoorHere_9 0 rfl rfl)
theorem dX4_isDoorHere_213 : decode cX4_isDoorHere 213 = .ok (.ifCond .eq 12, 3) := dk_153 0 12 (dk_at dksX4_isDoorHere_9 2 rfl rfl)
theorem dX4_isDoorHere_216 : decode cX4_isDoorHere 216 = .ok (.iload 8, 2) := dk_21 8 (dk_at dksX4_isDoorHere_9 5 rfl rfl)
theorem dX4_isDoorHere_218 : decode cX4_isDoorHere 218 = .ok (.ifCond .ne 7, 3) := dk_154 0 7 (dk_at dksX4_isDoorHere_9 7 rfl rfl)
theorem dX4_isDoorHere_221 : decode cX4_isDoorHere 221 = .ok (.iconst 1, 1) := dk_4 (dk_at dksX4_isDoorHere_9 10 rfl rfl)
theorem dX4_isDoorHere_222 : decode cX4_isDoorHere 222 = .ok (.goto 4, 3) := dk_167 0 4 (dk_at dksX4_isDoorHere_9 11 rfl rfl)
theorem dX4_isDoorHere_225 : decode cX4_isDoorHere 225 = .ok (.iconst 0, 1) := dk_3 (dk_at dksX4_isDoorHere_9 14 rfl rfl)
theorem dX4_isDoorHere_226 : decode cX4_isDoorHere 226 = .ok (.istore 5, 2) := dk_54 5 (dk_at dksX4_isDoorHere_9 15 rfl rfl)
theorem dX4_isDoorHere_228 : decode cX4_isDoorHere 228 = .ok (.iinc 6 1, 3) := dk_132 6 1 (dk_at dksX4_isDoorHere_9 17 rfl rfl)
theorem dX4_isDoorHere_231 : decode cX4_isDoorHere 231 = .ok (.goto (-119), 3) := dk_167 255 137 (dk_at dksX4_isDoorHere_9 20 rfl rfl)
theorem dX4_isDoorHere_234 : decode cX4_isDoorHere 234 = .ok (.iload 5, 2) := dk_21 5 (dk_at dksX4_isDoorHere_10 0 rfl rfl)
theorem dX4_isDoorHere_236 : decode cX4_isDoorHere 236 = .ok (.ifCond .ne 11, 3) := dk_154 0 11 (dk_at dksX4_isDoorHere_10 2 rfl rfl)
theorem dX4_isDoorHere_239 : decode cX4_isDoorHere 239 = .ok (.aload_n 0, 1) := dk_42 (dk_at dksX4_isDoorHere_10 5 rfl rfl)
theorem dX4_isDoorHere_240 : decode cX4_isDoorHere 240 = .ok (.iconst 1, 1) := dk_4 (dk_at dksX4_isDoorHere_10 6 rfl rfl)
theorem dX4_isDoorHere_241 : decode cX4_isDoorHere 241 = .ok (.iload 4, 2) := dk_21 4 (dk_at dksX4_isDoorHere_10 7 rfl rfl)
theorem dX4_isDoorHere_243 : decode cX4_isDoorHere 243 = .ok (.invokevirtual 121, 3) := dk_182 0 121 (dk_at dksX4_isDoorHere_10 9 rfl rfl)
theorem dX4_isDoorHere_246 : decode cX4_isDoorHere 246 = .ok (.ireturn, 1) := dk_172 (dk_at dksX4_isDoorHere_10 12 rfl rfl)
theorem dX4_isDoorHere_247 : decode cX4_isDoorHere 247 = .ok (.aload_n 0, 1) := dk_42 (dk_at dksX4_isDoorHere_10 13 rfl rfl)
theorem dX4_isDoorHere_248 : decode cX4_isDoorHere 248 = .ok (.getfield 26, 3) := dk_180 0 26 (dk_at dksX4_isDoorHere_10 14 rfl rfl)
theorem dX4_isDoorHere_251 : decode cX4_isDoorHere 251 = .ok (.iload_n 3, 1) := dk_29 (dk_at dksX4_isDoorHere_10 17 rfl rfl)
theorem dX4_isDoorHere_252 : decode cX4_isDoorHere 252 = .ok (.iconst 2, 1) := dk_5 (dk_at dksX4_isDoorHere_10 18 rfl rfl)
theorem dX4_isDoorHere_253 : decode cX4_isDoorHere 253 = .ok (.iadd, 1) := dk_96 (dk_at dksX4_isDoorHere_10 19 rfl rfl)
theorem dX4_isDoorHere_254 : decode cX4_isDoorHere 254 = .ok (.iload_n 2, 1) := dk_28 (dk_at dksX4_isDoorHere_10 20 rfl rfl)
theorem dX4_isDoorHere_255 : decode cX4_isDoorHere 255 = .ok (.iastore, 1) := dk_79 (dk_at dksX4_isDoorHere_10 21 rfl rfl)
theorem dX4_isDoorHere_256 : decode cX4_isDoorHere 256 = .ok (.aload_n 0, 1) := dk_42 (dk_at dksX4_isDoorHere_10 22 rfl rfl)
theorem dX4_isDoorHere_257 : decode cX4_isDoorHere 257 = .ok (.getfield 26, 3) := dk_180 0 26 (dk_at dksX4_isDoorHere_11 0 rfl rfl)
theorem dX4_isDoorHere_260 : decode cX4_isDoorHere 260 = .ok (.iconst 1, 1) := dk_4 (dk_at dksX4_isDoorHere_11 3 rfl rfl)
theorem dX4_isDoorHere_261 : decode cX4_isDoorHere 261 = .ok (.dup2, 1) := dk_92 (dk_at dksX4_isDoorHere_11 4 rfl rfl)
theorem dX4_isDoorHere_262 : decode cX4_isDoorHere 262 = .ok (.iaload, 1) := dk_46 (dk_at dksX4_isDoorHere_11 5 rfl rfl)
theorem dX4_isDoorHere_263 : decode cX4_isDoorHere 263 = .ok (.iconst 1, 1) := dk_4 (dk_at dksX4_isDoorHere_11 6 rfl rfl)
theorem dX4_isDoorHere_264 : decode cX4_isDoorHere 264 = .ok (.iadd, 1) := dk_96 (dk_at dksX4_isDoorHere_11 7 rfl rfl)
theorem dX4_isDoorHere_265 : decode cX4_isDoorHere 265 = .ok (.iastore, 1) := dk_79 (dk_at dksX4_isDoorHere_11 8 rfl rfl)
theorem dX4_isDoorHere_266 : decode cX4_isDoorHere 266 = .ok (.iconst 1, 1) := dk_4 (dk_at dksX4_isDoorHere_11 9 rfl rfl)
theorem dX4_isDoorHere_267 : decode cX4_isDoorHere 267 = .ok (.ireturn, 1) := dk_172 (dk_at dksX4_isDoorHere_11 10 rfl rfl)
abbrev cX4_isNightHere : ByteArray := prog_20_method_34_code
def yX4_isNightHere : MethodName := ⟨RX4, "isNightHere", "(I)Z"⟩
def dkwX4_isNightHere_2 : List UInt8 := [4, 167, 0, 4, 3, 172]
abbrev dktX4_isNightHere_2 : List UInt8 := dkwX4_isNightHere_2 ++ []
def dkwX4_isNightHere_1 : List UInt8 := [16, 23, 182, 0, 228, 153, 0, 23, 42, 8, 42, 180, 0, 26, 7, 46, 16, 23, 182, 0, 228, 153, 0, 7]
abbrev dktX4_isNightHere_1 : List UInt8 := dkwX4_isNightHere_1 ++ dktX4_isNightHere_2
def dkwX4_isNightHere_0 : List UInt8 := [42, 180, 0, 26, 7, 46, 155, 0, 10, 42, 7, 27, 182, 0, 121, 172, 42, 182, 0, 115, 42, 7, 3]
abbrev dktX4_isNightHere_0 : List UInt8 := dkwX4_isNightHere_0 ++ dktX4_isNightHere_1
theorem dksX4_isNightHere_0 : cX4_isNightHere.data.toList.drop 0 = dktX4_isNightHere_0 := by decide +kernel
theorem dksX4_isNightHere_1 : cX4_isNightHere.data.toList.drop 23 = dktX4_isNightHere_1 := dk_seg dksX4_isNightHere_0 23 rfl rfl
theorem dksX4_isNightHere_2 : cX4_isNightHere.data.toList.drop 47 = dktX4_isNightHere_2 := dk_seg dksX4_isNightHere_1 24 rfl rfl
theorem dX4_isNightHere_0 : decode cX4_isNightHere 0 = .ok (.aload_n 0, 1) := dk_42 (dk_at dksX4_isNightHere_0 0 rfl rfl)
theorem dX4_isNightHere_1 : decode cX4_isNightHere 1 = .ok (.getfield 26, 3) := dk_180 0 26 (dk_at dksX4_isNightHere_0 1 rfl rfl)
theorem dX4_isNightHere_4 : decode cX4_isNightHere 4 = .ok (.iconst 4, 1) := dk_7 (dk_at dksX4_isNightHere_0 4 rfl rfl)
theorem dX4_isNightHere_5 : decode cX4_isNightHere 5 = .ok (.iaload, 1) := dk_46 (dk_at dksX4_isNightHere_0 5 rfl rfl)
theorem dX4_isNightHere_6 : decode cX4_isNightHere 6 = .ok (.ifCond .lt 10, 3) := dk_155 0 10 (dk_at dksX4_isNightHere_0 6 rfl rfl)
theorem dX4_isNightHere_9 : decode cX4_isNightHere 9 = .ok (.aload_n 0, 1) := dk_42 (dk_at dksX4_isNightHere_0 9 rfl rfl)
theorem dX4_isNightHere_10 : decode cX4_isNightHere 10 = .ok (.iconst 4, 1) := dk_7 (dk_at dksX4_isNightHere_0 10 rfl rfl)
theorem dX4_isNightHere_11 : decode cX4_isNightHere 11 = .ok (.iload_n 1, 1) := dk_27 (dk_at dksX4_isNightHere_0 11 rfl rfl)
theorem dX4_isNightHere_12 : decode cX4_isNightHere 12 = .ok (.invokevirtual 121, 3) := dk_182 0 121 (dk_at dksX4_isNightHere_0 12 rfl rfl)
theorem dX4_isNightHere_15 : decode cX4_isNightHere 15 = .ok (.ireturn, 1) := dk_172 (dk_at dksX4_isNightHere_0 15 rfl rfl)
theorem dX4_isNightHere_16 : decode cX4_isNightHere 16 = .ok (.aload_n 0, 1) := dk_42 (dk_at dksX4_isNightHere_0 16 rfl rfl)
theorem dX4_isNightHere_17 : decode cX4_isNightHere 17 = .ok (.invokevirtual 115, 3) := dk_182 0 115 (dk_at dksX4_isNightHere_0 17 rfl rfl)
theorem dX4_isNightHere_20 : decode cX4_isNightHere 20 = .ok (.aload_n 0, 1) := dk_42 (dk_at dksX4_isNightHere_0 20 rfl rfl)
theorem dX4_isNightHere_21 : decode cX4_isNightHere 21 = .ok (.iconst 4, 1) := dk_7 (dk_at dksX4_isNightHere_0 21 rfl rfl)
theorem dX4_isNightHere_22 : decode cX4_isNightHere 22 = .ok (.iconst 0, 1) := dk_3 (dk_at dksX4_isNightHere_0 22 rfl rfl)
theorem dX4_isNightHere_23 : decode cX4_isNightHere 23 = .ok (.bipush 23, 2) := dk_16 23 (dk_at dksX4_isNightHere_1 0 rfl rfl)
theorem dX4_isNightHere_25 : decode cX4_isNightHere 25 = .ok (.invokevirtual 228, 3) := dk_182 0 228 (dk_at dksX4_isNightHere_1 2 rfl rfl)
theorem dX4_isNightHere_28 : decode cX4_isNightHere 28 = .ok (.ifCond .eq 23, 3) := dk_153 0 23 (dk_at dksX4_isNightHere_1 5 rfl rfl)
theorem dX4_isNightHere_31 : decode cX4_isNightHere 31 = .ok (.aload_n 0, 1) := dk_42 (dk_at dksX4_isNightHere_1 8 rfl rfl)
theorem dX4_isNightHere_32 : decode cX4_isNightHere 32 = .ok (.iconst 5, 1) := dk_8 (dk_at dksX4_isNightHere_1 9 rfl rfl)
theorem dX4_isNightHere_33 : decode cX4_isNightHere 33 = .ok (.aload_n 0, 1) := dk_42 (dk_at dksX4_isNightHere_1 10 rfl rfl)
theorem dX4_isNightHere_34 : decode cX4_isNightHere 34 = .ok (.getfield 26, 3) := dk_180 0 26 (dk_at dksX4_isNightHere_1 11 rfl rfl)
theorem dX4_isNightHere_37 : decode cX4_isNightHere 37 = .ok (.iconst 4, 1) := dk_7 (dk_at dksX4_isNightHere_1 14 rfl rfl)
theorem dX4_isNightHere_38 : decode cX4_isNightHere 38 = .ok (.iaload, 1) := dk_46 (dk_at dksX4_isNightHere_1 15 rfl rfl)
theorem dX4_isNightHere_39 : decode cX4_isNightHere 39 = .ok (.bipush 23, 2) := dk_16 23 (dk_at dksX4_isNightHere_1 16 rfl rfl)
theorem dX4_isNightHere_41 : decode cX4_isNightHere 41 = .ok (.invokevirtual 228, 3) := dk_182 0 228 (dk_at dksX4_isNightHere_1 18 rfl rfl)
theorem dX4_isNightHere_44 : decode cX4_isNightHere 44 = .ok (.ifCond .eq 7, 3) := dk_153 0 7 (dk_at dksX4_isNightHere_1 21 rfl rfl)
theorem dX4_isNightHere_47 : decode cX4_isNightHere 47 = .ok (.iconst 1, 1) := dk_4 (dk_at dksX4_isNightHere_2 0 rfl rfl)
theorem dX4_isNightHere_48 : decode cX4_isNightHere 48 = .ok (.goto 4, 3) := dk_167 0 4 (dk_at dksX4_isNightHere_2 1 rfl rfl)
theorem dX4_isNightHere_51 : decode cX4_isNightHere 51 = .ok (.iconst 0, 1) := dk_3 (dk_at dksX4_isNightHere_2 4 rfl rfl)
theorem dX4_isNightHere_52 : decode cX4_isNightHere 52 = .ok (.ireturn, 1) := dk_172 (dk_at dksX4_isNightHere_2 5 rfl rfl)
abbrev cX4_isPersonHere : ByteArray := prog_20_method_35_code
def yX4_isPersonHere : MethodName := ⟨RX4, "isPersonHere", "(I)Z"⟩
def dkwX4_isPersonHere_5 : List UInt8 := [180, 0, 26, 5, 92, 46, 4, 96, 79, 4, 172]
abbrev dktX4_isPersonHere_5 : List UInt8 := dkwX4_isPersonHere_5 ++ []
def dkwX4_isPersonHere_4 : List UInt8 := [96, 3, 79, 42, 180, 0, 26, 28, 7, 96, 3, 79, 42, 180, 0, 26, 28, 8, 96, 2, 79, 42]
abbrev dktX4_isPersonHere_4 : List UInt8 := dkwX4_isPersonHere_4 ++ dktX4_isPersonHere_5
def dkwX4_isPersonHere_3 : List UInt8 := [153, 0, 16, 42, 28, 5, 96, 3, 16, 50, 182, 0, 228, 154, 0, 5, 3, 172, 42, 180, 0, 26, 28, 6]
abbrev dktX4_isPersonHere_3 : List UInt8 := dkwX4_isPersonHere_3 ++ dktX4_isPersonHere_4
def dkwX4_isPersonHere_2 : List UInt8 := [182, 0, 228, 153, 0, 35, 42, 28, 4, 96, 3, 42, 180, 0, 26, 3, 46, 4, 100, 182, 0, 228]
abbrev dktX4_isPersonHere_2 : List UInt8 := dkwX4_isPersonHere_2 ++ dktX4_isPersonHere_3
def dkwX4_isPersonHere_1 : List UInt8 := [16, 6, 42, 180, 0, 26, 5, 46, 104, 96, 61, 42, 28, 3, 42, 180, 0, 26, 3, 46, 4, 100]
abbrev dktX4_isPersonHere_1 : List UInt8 := dkwX4_isPersonHere_1 ++ dktX4_isPersonHere_2
def dkwX4_isPersonHere_0 : List UInt8 := [42, 180, 0, 26, 5, 46, 7, 160, 0, 10, 42, 7, 27, 182, 0, 121, 172, 42, 182, 0, 115, 16, 10]
abbrev dktX4_isPersonHere_0 : List UInt8 := dkwX4_isPersonHere_0 ++ dktX4_isPersonHere_1
theorem dksX4_isPersonHere_0 : cX4_isPersonHere.data.toList.drop 0 = dktX4_isPersonHere_0 := by decide +kernel
theorem dksX4_isPersonHere_1 : cX4_isPersonHere.data.toList.drop 23 = dktX4_isPersonHere_1 := dk_seg dksX4_isPersonHere_0 23 rfl rfl
theorem dksX4_isPersonHere_2 : cX4_isPersonHere.data.toList.drop 45 = dktX4_isPersonHere_2 := dk_seg dksX4_isPersonHere_1 22 rfl rfl
theorem dksX4_isPersonHere_3 : cX4_isPersonHere.data.toList.drop 67 = dktX4_isPersonHere_3 := dk_seg dksX4_isPersonHere_2 22 rfl rfl
theorem dksX4_isPersonHere_4 : cX4_isPersonHere.data.toList.drop 91 = dktX4_isPersonHere_4 := dk_seg dksX4_isPersonHere_3 24 rfl rfl
theorem dksX4_isPersonHere_5 : cX4_isPersonHere.data.toList.drop 113 = dktX4_isPersonHere_5 := dk_seg dksX4_isPersonHere_4 22 rfl rfl
theorem dX4_isPersonHere_0 : decode cX4_isPersonHere 0 = .ok (.aload_n 0, 1) := dk_42 (dk_at dksX4_isPersonHere_0 0 rfl rfl)
theorem dX4_isPersonHere_1 : decode cX4_isPersonHere 1 = .ok (.getfield 26, 3) := dk_180 0 26 (dk_at dksX4_isPersonHere_0 1 rfl rfl)
theorem dX4_isPersonHere_4 : decode cX4_isPersonHere 4 = .ok (.iconst 2, 1) := dk_5 (dk_at dksX4_isPersonHere_0 4 rfl rfl)
theorem dX4_isPersonHere_5 : decode cX4_isPersonHere 5 = .ok (.iaload, 1) := dk_46 (dk_at dksX4_isPersonHere_0 5 rfl rfl)
theorem dX4_isPersonHere_6 : decode cX4_isPersonHere 6 = .ok (.iconst 4, 1) := dk_7 (dk_at dksX4_isPersonHere_0 6 rfl rfl)
theorem dX4_isPersonHere_7 : decode cX4_isPersonHere 7 = .ok (.if_icmp .ne 10, 3) := dk_160 0 10 (dk_at dksX4_isPersonHere_0 7 rfl rfl)
theorem dX4_isPersonHere_10 : decode cX4_isPersonHere 10 = .ok (.aload_n 0, 1) := dk_42 (dk_at dksX4_isPersonHere_0 10 rfl rfl)
theorem dX4_isPersonHere_11 : decode cX4_isPersonHere 11 = .ok (.iconst 4, 1) := dk_7 (dk_at dksX4_isPersonHere_0 11 rfl rfl)
theorem dX4_isPersonHere_12 : decode cX4_isPersonHere 12 = .ok (.iload_n 1, 1) := dk_27 (dk_at dksX4_isPersonHere_0 12 rfl rfl)
theorem dX4_isPersonHere_13 : decode cX4_isPersonHere 13 = .ok (.invokevirtual 121, 3) := dk_182 0 121 (dk_at dksX4_isPersonHere_0 13 rfl rfl)
theorem dX4_isPersonHere_16 : decode cX4_isPersonHere 16 = .ok (.ireturn, 1) := dk_172 (dk_at dksX4_isPersonHere_0 16 rfl rfl)
theorem dX4_isPersonHere_17 : decode cX4_isPersonHere 17 = .ok (.aload_n 0, 1) := dk_42 (dk_at dksX4_isPersonHere_0 17 rfl rfl)
theorem dX4_isPersonHere_18 : decode cX4_isPersonHere 18 = .ok (.invokevirtual 115, 3) := dk_182 0 115 (dk_at dksX4_isPersonHere_0 18 rfl rfl)
theorem dX4_isPersonHere_21 : decode cX4_isPersonHere 21 = .ok (.bipush 10, 2) := dk_16 10 (dk_at dksX4_isPersonHere_0 21 rfl rfl)
theorem dX4_isPersonHere_23 : decode cX4_isPersonHere 23 = .ok (.bipush 6, 2) := dk_16 6 (dk_at dksX4_isPersonHere_1 0 rfl rfl)
theorem dX4_isPersonHere_25 : decode cX4_isPersonHere 25 = .ok (.aload_n 0, 1) := dk_42 (dk_at dksX4_isPersonHere_1 2 rfl rfl)
theorem dX4_isPersonHere_26 : decode cX4_isPersonHere 26 = .ok (.getfield 26, 3) := dk_180 0 26 (dk_at dksX4_isPersonHere_1 3 rfl rfl)
theorem dX4_isPersonHere_29 : decode cX4_isPersonHere 29 = .ok (.iconst 2, 1) := dk_5 (dk_at dksX4_isPersonHere_1 6 rfl rfl)
theorem dX4_isPersonHere_30 : decode cX4_isPersonHere 30 = .ok (.iaload, 1) := dk_46 (dk_at dksX4_isPersonHere_1 7 rfl rfl)
theorem dX4_isPersonHere_31 : decode cX4_isPersonHere 31 = .ok (.imul, 1) := dk_104 (dk_at dksX4_isPersonHere_1 8 rfl rfl)
theorem dX4_isPersonHere_32 : decode cX4_isPersonHere 32 = .ok (.iadd, 1) := dk_96 (dk_at dksX4_isPersonHere_1 9 rfl rfl)
theorem dX4_isPersonHere_33 : decode cX4_isPersonHere 33 = .ok (.istore_n 2, 1) := dk_61 (dk_at dksX4_isPersonHere_1 10 rfl rfl)
theorem dX4_isPersonHere_34 : decode cX4_isPersonHere 34 = .ok (.aload_n 0, 1) := dk_42 (dk_at dksX4_isPersonHere_1 11 rfl rfl)
theorem dX4_isPersonHere_35 : decode cX4_isPersonHere 35 = .ok (.iload_n 2, 1) := dk_28 (dk_at dksX4_isPersonHere_1 12 rfl rfl)
theorem dX4_isPersonHere_36 : decode cX4_isPersonHere 36 = .ok (.iconst 0, 1) := dk_3 (dk_at dksX4_isPersonHere_1 13 rfl rfl)
theorem dX4_isPersonHere_37 : decode cX4_isPersonHere 37 = .ok (.aload_n 0, 1) := dk_42 (dk_at dksX4_isPersonHere_1 14 rfl rfl)
theorem dX4_isPersonHere_38 : decode cX4_isPersonHere 38 = .ok (.getfield 26, 3) := dk_180 0 26 (dk_at dksX4_isPersonHere_1 15 rfl rfl)
theorem dX4_isPersonHere_41 : decode cX4_isPersonHere 41 = .ok (.iconst 0, 1) := dk_3 (dk_at dksX4_isPersonHere_1 18 rfl rfl)
theorem dX4_isPersonHere_42 : decode cX4_isPersonHere 42 = .ok (.iaload, 1) := dk_46 (dk_at dksX4_isPersonHere_1 19 rfl rfl)
theorem dX4_isPersonHere_43 : decode cX4_isPersonHere 43 = .ok (.iconst 1, 1) := dk_4 (dk_at dksX4_isPersonHere_1 20 rfl rfl)
theorem dX4_isPersonHere_44 : decode cX4_isPersonHere 44 = .ok (.isub, 1) := dk_100 (dk_at dksX4_isPersonHere_1 21 rfl rfl)
theorem dX4_isPersonHere_45 : decode cX4_isPersonHere 45 = .ok (.invokevirtual 228, 3) := dk_182 0 228 (dk_at dksX4_isPersonHere_2 0 rfl rfl)
theorem dX4_isPersonHere_48 : decode cX4_isPersonHere 48 = .ok (.ifCond .eq 35, 3) := dk_153 0 35 (dk_at dksX4_isPersonHere_2 3 rfl rfl)
theorem dX4_isPersonHere_51 : decode cX4_isPersonHere 51 = .ok (.aload_n 0, 1) := dk_42 (dk_at dksX4_isPersonHere_2 6 rfl rfl)
theorem dX4_isPersonHere_52 : decode cX4_isPersonHere 52 = .ok (.iload_n 2, 1) := dk_28 (dk_at dksX4_isPersonHere_2 7 rfl rfl)
theorem dX4_isPersonHere_53 : decode cX4_isPersonHere 53 = .ok (.iconst 1, 1) := dk_4 (dk_at dksX4_isPersonHere_2 8 rfl rfl)
theorem dX4_isPersonHere_54 : decode cX4_isPersonHere 54 = .ok (.iadd, 1) := dk_96 (dk_at dksX4_isPersonHere_2 9 rfl rfl)
theorem dX4_isPersonHere_55 : decode cX4_isPersonHere 55 = .ok (.iconst 0, 1) := dk_3 (dk_at dksX4_isPersonHere_2 10 rfl rfl)
theorem dX4_isPersonHere_56 : decode cX4_isPersonHere 56 = .ok (.aload_n 0, 1) := dk_42 (dk_at dksX4_isPersonHere_2 11 rfl rfl)
theorem dX4_isPersonHere_57 : decode cX4_isPersonHere 57 = .ok (.getfield 26, 3) := dk_180 0 26 (dk_at dksX4_isPersonHere_2 12 rfl rfl)
theorem dX4_isPersonHere_60 : decode cX4_isPersonHere 60 = .ok (.iconst 0, 1) := dk_3 (dk_at dksX4_isPersonHere_2 15 rfl rfl)
theorem dX4_isPersonHere_61 : decode cX4_isPersonHere 61 = .ok (.iaload, 1) := dk_46 (dk_at dksX4_isPersonHere_2 16 rfl rfl)
theorem dX4_isPersonHere_62 : decode cX4_isPersonHere 62 = .ok (.iconst 1, 1) := dk_4 (dk_at dksX4_isPersonHere_2 17 rfl rfl)
theorem dX4_isPersonHere_63 : decode cX4_isPersonHere 63 = .ok (.isub, 1) := dk_100 (dk_at dksX4_isPersonHere_2 18 rfl rfl)
theorem dX4_isPersonHere_64 : decode cX4_isPersonHere 64 = .ok (.invokevirtual 228, 3) := dk_182 0 228 (dk_at dksX4_isPersonHere_2 19 rfl rfl)
theorem dX4_isPersonHere_67 : decode cX4_isPersonHere 67 = .ok (.ifCond .eq 16, 3) := dk_153 0 16 (dk_at dksX4_isPersonHere_3 0 rfl rfl)
theorem dX4_isPersonHere_70 : decode cX4_isPersonHere 70 = .ok (.aload_n 0, 1) := dk_42 (dk_at dksX4_isPersonHere_3 3 rfl rfl)
theorem dX4_isPersonHere_71 : decode cX4_isPersonHere 71 = .ok (.iload_n 2, 1) := dk_28 (dk_at dksX4_isPersonHere_3 4 rfl rfl)
theorem dX4_isPersonHere_72 : decode cX4_isPersonHere 72 = .ok (.iconst 2, 1) := dk_5 (dk_at dksX4_isPersonHere_3 5 rfl rfl)
theorem dX4_isPersonHere_73 : decode cX4_isPersonHere 73 = .ok (.iadd, 1) := dk_96 (dk_at dksX4_isPersonHere_3 6 rfl rfl)
theorem dX4_isPersonHere_74 : decode cX4_isPersonHere 74 = .ok (.iconst 0, 1) := dk_3 (dk_at dksX4_isPersonHere_3 7 rfl rfl)
theorem dX4_isPersonHere_75 : decode cX4_isPersonHere 75 = .ok (.bipush 50, 2) := dk_16 50 (dk_at dksX4_isPersonHere_3 8 rfl rfl)
theorem dX4_isPersonHere_77 : decode cX4_isPersonHere 77 = .ok (.invokevirtual 228, 3) := dk_182 0 228 (dk_at dksX4_isPersonHere_3 10 rfl rfl)
theorem dX4_isPersonHere_80 : decode cX4_isPersonHere 80 = .ok (.ifCond .ne 5, 3) := dk_154 0 5 (dk_at dksX4_isPersonHere_3 13 rfl rfl)
theorem dX4_isPersonHere_83 : decode cX4_isPersonHere 83 = .ok (.iconst 0, 1) := dk_3 (dk_at dksX4_isPersonHere_3 16 rfl rfl)
theorem dX4_isPersonHere_84 : decode cX4_isPersonHere 84 = .ok (.ireturn, 1) := dk_172 (dk_at dksX4_isPersonHere_3 17 rfl rfl)
theorem dX4_isPersonHere_85 : decode cX4_isPersonHere 85 = .ok (.aload_n 0, 1) := dk_42 (dk_at dksX4_isPersonHere_3 18 rfl rfl)
theorem dX4_isPersonHere_86 : decode cX4_isPersonHere 86 = .ok (.getfield 26, 3) := dk_180 0 26 (dk_at dksX4_isPersonHere_3 19 rfl rfl)
theorem dX4_isPersonHere_89 : decode cX4_isPersonHere 89 = .ok (.iload_n 2, 1) := dk_28 (dk_at dksX4_isPersonHere_3 22 rfl rfl)
theorem dX4_isPersonHere_90 : decode cX4_isPersonHere 90 = .ok (.iconst 3, 1) := dk_6 (dk_at dksX4_isPersonHere_3 23 rfl rfl)
theorem dX4_isPersonHere_91 : decode cX4_isPersonHere 91 = .ok (.iadd, 1) := dk_96 (dk_at dksX4_isPersonHere_4 0 rfl rfl)
theorem dX4_isPersonHere_92 : decode cX4_isPersonHere 92 = .ok (.iconst 0, 1) := dk_3 (dk_at dksX4_isPersonHere_4 1 rfl rfl)
theorem dX4_isPersonHere_93 : decode cX4_isPersonHere 93 = .ok (.iastore, 1) := dk_79 (dk_at dksX4_isPersonHere_4 2 rfl rfl)
theorem dX4_isPersonHere_94 : decode cX4_isPersonHere 94 = .ok (.aload_n 0, 1) := dk_42 (dk_at dksX4_isPersonHere_4 3 rfl rfl)
theorem dX4_isPersonHere_95 : decode cX4_isPersonHere 95 = .ok (.getfield 26, 3) := dk_180 0 26 (dk_at dksX4_isPersonHere_4 4 rfl rfl)
theorem dX4_isPersonHere_98 : decode cX4_isPersonHere 98 = .ok (.iload_n 2, 1) := dk_28 (dk_at dksX4_isPersonHere_4 7 rfl rfl)
theorem dX4_isPersonHere_99 : decode cX4_isPersonHere 99 = .ok (.iconst 4, 1) := dk_7 (dk_at dksX4_isPersonHere_4 8 rfl rfl)
theorem dX4_isPersonHere_100 : decode cX4_isPersonHere 100 = .ok (.iadd, 1) := dk_96 (dk_at dksX4_isPersonHere_4 9 rfl rfl)
theorem dX4_isPersonHere_101 : decode cX4_isPersonHere 101 = .ok (.iconst 0, 1) := dk_3 (dk_at dksX4_isPersonHere_4 10 rfl rfl)
theorem dX4_isPersonHere_102 : decode cX4_isPersonHere 102 = .ok (.iastore, 1) := dk_79 (dk_at dksX4_isPersonHere_4 11 rfl rfl)
theorem dX4_isPersonHere_103 : decode cX4_isPersonHere 103 = .ok (.aload_n 0, 1) := dk_42 (dk_at dksX4_isPersonHere_4 12 rfl rfl)
theorem dX4_isPersonHere_104 : decode cX4_isPersonHere 104 = .ok (.getfield 26, 3) := dk_180 0 26 (dk_at dksX4_isPersonHere_4 13 rfl rfl)
theorem dX4_isPersonHere_107 : decode cX4_isPersonHere 107 = .ok (.iload_n 2, 1) := dk_28 (dk_at dksX4_isPersonHere_4 16 rfl rfl)
theorem dX4_isPersonHere_108 : decode cX4_isPersonHere 108 = .ok (.iconst 5, 1) := dk_8 (dk_at dksX4_isPersonHere_4 17 rfl rfl)
theorem dX4_isPersonHere_109 : decode cX4_isPersonHere 109 = .ok (.iadd, 1) := dk_96 (dk_at dksX4_isPersonHere_4 18 rfl rfl)
theorem dX4_isPersonHere_110 : decode cX4_isPersonHere 110 = .ok (.iconst (-1), 1) := dk_2 (dk_at dksX4_isPersonHere_4 19 rfl rfl)
theorem dX4_isPersonHere_111 : decode cX4_isPersonHere 111 = .ok (.iastore, 1) := dk_79 (dk_at dksX4_isPersonHere_4 20 rfl rfl)
theorem dX4_isPersonHere_112 : decode cX4_isPersonHere 112 = .ok (.aload_n 0, 1) := dk_42 (dk_at dksX4_isPersonHere_4 21 rfl rfl)
theorem dX4_isPersonHere_113 : decode cX4_isPersonHere 113 = .ok (.getfield 26, 3) := dk_180 0 26 (dk_at dksX4_isPersonHere_5 0 rfl rfl)
theorem dX4_isPersonHere_116 : decode cX4_isPersonHere 116 = .ok (.iconst 2, 1) := dk_5 (dk_at dksX4_isPersonHere_5 3 rfl rfl)
theorem dX4_isPersonHere_117 : decode cX4_isPersonHere 117 = .ok (.dup2, 1) := dk_92 (dk_at dksX4_isPersonHere_5 4 rfl rfl)
theorem dX4_isPersonHere_118 : decode cX4_isPersonHere 118 = .ok (.iaload, 1) := dk_46 (dk_at dksX4_isPersonHere_5 5 rfl rfl)
theorem dX4_isPersonHere_119 : decode cX4_isPersonHere 119 = .ok (.iconst 1, 1) := dk_4 (dk_at dksX4_isPersonHere_5 6 rfl rfl)
theorem dX4_isPersonHere_120 : decode cX4_isPersonHere 120 = .ok (.iadd, 1) := dk_96 (dk_at dksX4_isPersonHere_5 7 rfl rfl)
theorem dX4_isPersonHere_121 : decode cX4_isPersonHere 121 = .ok (.iastore, 1) := dk_79 (dk_at dksX4_isPersonHere_5 8 rfl rfl)
theorem dX4_isPersonHere_122 : decode cX4_isPersonHere 122 = .ok (.iconst 1, 1) := dk_4 (dk_at dksX4_isPersonHere_5 9 rfl rfl)
theorem dX4_isPersonHere_123 : decode cX4_isPersonHere 123 = .ok (.ireturn, 1) := dk_172 (dk_at dksX4_isPersonHere_5 10 rfl rfl)
abbrev cX4_isGoHere : ByteArray := prog_20_method_29_code
def yX4_isGoHere : MethodName := ⟨RX4, "isGoHere", "()Z"⟩
def dkwX4_isGoHere_5 : List UInt8 := [180, 0, 17, 42, 180, 0, 156, 46, 79, 42, 180, 0, 23, 42, 180, 0, 156, 92, 46, 4, 96, 79, 4, 172]
abbrev dktX4_isGoHere_5 : List UInt8 := dkwX4_isGoHere_5 ++ []
def dkwX4_isGoHere_4 : List UInt8 := [180, 0, 156, 46, 79, 42, 182, 0, 225, 154, 0, 5, 3, 172, 42, 180, 0, 20, 27, 6, 96, 42]
abbrev dktX4_isGoHere_4 : List UInt8 := dkwX4_isGoHere_4 ++ dktX4_isGoHere_5
def dkwX4_isGoHere_3 : List UInt8 := [2, 79, 42, 20, 0, 220, 182, 0, 222, 153, 0, 29, 42, 180, 0, 20, 27, 5, 96, 42, 180, 0, 17, 42]
abbrev dktX4_isGoHere_3 : List UInt8 := dkwX4_isGoHere_3 ++ dktX4_isGoHere_4
def dkwX4_isGoHere_2 : List UInt8 := [42, 180, 0, 20, 27, 4, 96, 42, 180, 0, 17, 42, 180, 0, 156, 46, 79, 42, 180, 0, 20, 27, 5, 96]
abbrev dktX4_isGoHere_2 : List UInt8 := dkwX4_isGoHere_2 ++ dktX4_isGoHere_3
def dkwX4_isGoHere_1 : List UInt8 := [42, 180, 0, 20, 27, 42, 180, 0, 17, 42, 180, 0, 156, 46, 79, 42, 182, 0, 193, 154, 0, 5, 3, 172]
abbrev dktX4_isGoHere_1 : List UInt8 := dkwX4_isGoHere_1 ++ dktX4_isGoHere_2
def dkwX4_isGoHere_0 : List UInt8 := [42, 182, 0, 115, 16, 48, 42, 180, 0, 156, 104, 7, 42, 180, 0, 23, 42, 180, 0, 156, 46, 104, 96, 60]
abbrev dktX4_isGoHere_0 : List UInt8 := dkwX4_isGoHere_0 ++ dktX4_isGoHere_1
theorem dksX4_isGoHere_0 : cX4_isGoHere.data.toList.drop 0 = dktX4_isGoHere_0 := by decide +kernel
theorem dksX4_isGoHere_1 : cX4_isGoHere.data.toList.drop 24 = dktX4_isGoHere_1 := dk_seg dksX4_isGoHere_0 24 rfl rfl
theorem dksX4_isGoHere_2 : cX4_isGoHere.data.toList.drop 48 = dktX4_isGoHere_2 := dk_seg dksX4_isGoHere_1 24 rfl rfl
theorem dksX4_isGoHere_3 : cX4_isGoHere.data.toList.drop 72 = dktX4_isGoHere_3 := dk_seg dksX4_isGoHere_2 24 rfl rfl
theorem dksX4_isGoHere_4 : cX4_isGoHere.data.toList.drop 96 = dktX4_isGoHere_4 := dk_seg dksX4_isGoHere_3 24 rfl rfl
theorem dksX4_isGoHere_5 : cX4_isGoHere.data.toList.drop 118 = dktX4_isGoHere_5 := dk_seg dksX4_isGoHere_4 22 rfl rfl
theorem dX4_isGoHere_0 : decode cX4_isGoHere 0 = .ok (.aload_n 0, 1) := dk_42 (dk_at dksX4_isGoHere_0 0 rfl rfl)
theorem dX4_isGoHere_1 : decode cX4_isGoHere 1 = .ok (.invokevirtual 115, 3) := dk_182 0 115 (dk_at dksX4_isGoHere_0 1 rfl rfl)
theorem dX4_isGoHere_4 : decode cX4_isGoHere 4 = .ok (.bipush 48, 2) := dk_16 48 (dk_at dksX4_isGoHere_0 4 rfl rfl)
theorem dX4_isGoHere_6 : decode cX4_isGoHere 6 = .ok (.aload_n 0, 1) := dk_42 (dk_at dksX4_isGoHere_0 6 rfl rfl)
theorem dX4_isGoHere_7 : decode cX4_isGoHere 7 = .ok (.getfield 156, 3) := dk_180 0 156 (dk_at dksX4_isGoHere_0 7 rfl rfl)
theorem dX4_isGoHere_10 : decode cX4_isGoHere 10 = .ok (.imul, 1) := dk_104 (dk_at dksX4_isGoHere_0 10 rfl rfl)
theorem dX4_isGoHere_11 : decode cX4_isGoHere 11 = .ok (.iconst 4, 1) := dk_7 (dk_at dksX4_isGoHere_0 11 rfl rfl)
theorem dX4_isGoHere_12 : decode cX4_isGoHere 12 = .ok (.aload_n 0, 1) := dk_42 (dk_at dksX4_isGoHere_0 12 rfl rfl)
theorem dX4_isGoHere_13 : decode cX4_isGoHere 13 = .ok (.getfield 23, 3) := dk_180 0 23 (dk_at dksX4_isGoHere_0 13 rfl rfl)
theorem dX4_isGoHere_16 : decode cX4_isGoHere 16 = .ok (.aload_n 0, 1) := dk_42 (dk_at dksX4_isGoHere_0 16 rfl rfl)
theorem dX4_isGoHere_17 : decode cX4_isGoHere 17 = .ok (.getfield 156, 3) := dk_180 0 156 (dk_at dksX4_isGoHere_0 17 rfl rfl)
theorem dX4_isGoHere_20 : decode cX4_isGoHere 20 = .ok (.iaload, 1) := dk_46 (dk_at dksX4_isGoHere_0 20 rfl rfl)
theorem dX4_isGoHere_21 : decode cX4_isGoHere 21 = .ok (.imul, 1) := dk_104 (dk_at dksX4_isGoHere_0 21 rfl rfl)
theorem dX4_isGoHere_22 : decode cX4_isGoHere 22 = .ok (.iadd, 1) := dk_96 (dk_at dksX4_isGoHere_0 22 rfl rfl)
theorem dX4_isGoHere_23 : decode cX4_isGoHere 23 = .ok (.istore_n 1, 1) := dk_60 (dk_at dksX4_isGoHere_0 23 rfl rfl)
theorem dX4_isGoHere_24 : decode cX4_isGoHere 24 = .ok (.aload_n 0, 1) := dk_42 (dk_at dksX4_isGoHere_1 0 rfl rfl)
theorem dX4_isGoHere_25 : decode cX4_isGoHere 25 = .ok (.getfield 20, 3) := dk_180 0 20 (dk_at dksX4_isGoHere_1 1 rfl rfl)
theorem dX4_isGoHere_28 : decode cX4_isGoHere 28 = .ok (.iload_n 1, 1) := dk_27 (dk_at dksX4_isGoHere_1 4 rfl rfl)
theorem dX4_isGoHere_29 : decode cX4_isGoHere 29 = .ok (.aload_n 0, 1) := dk_42 (dk_at dksX4_isGoHere_1 5 rfl rfl)
theorem dX4_isGoHere_30 : decode cX4_isGoHere 30 = .ok (.getfield 17, 3) := dk_180 0 17 (dk_at dksX4_isGoHere_1 6 rfl rfl)
theorem dX4_isGoHere_33 : decode cX4_isGoHere 33 = .ok (.aload_n 0, 1) := dk_42 (dk_at dksX4_isGoHere_1 9 rfl rfl)
theorem dX4_isGoHere_34 : decode cX4_isGoHere 34 = .ok (.getfield 156, 3) := dk_180 0 156 (dk_at dksX4_isGoHere_1 10 rfl rfl)
theorem dX4_isGoHere_37 : decode cX4_isGoHere 37 = .ok (.iaload, 1) := dk_46 (dk_at dksX4_isGoHere_1 13 rfl rfl)
theorem dX4_isGoHere_38 : decode cX4_isGoHere 38 = .ok (.iastore, 1) := dk_79 (dk_at dksX4_isGoHere_1 14 rfl rfl)
theorem dX4_isGoHere_39 : decode cX4_isGoHere 39 = .ok (.aload_n 0, 1) := dk_42 (dk_at dksX4_isGoHere_1 15 rfl rfl)
theorem dX4_isGoHere_40 : decode cX4_isGoHere 40 = .ok (.invokevirtual 193, 3) := dk_182 0 193 (dk_at dksX4_isGoHere_1 16 rfl rfl)
theorem dX4_isGoHere_43 : decode cX4_isGoHere 43 = .ok (.ifCond .ne 5, 3) := dk_154 0 5 (dk_at dksX4_isGoHere_1 19 rfl rfl)
theorem dX4_isGoHere_46 : decode cX4_isGoHere 46 = .ok (.iconst 0, 1) := dk_3 (dk_at dksX4_isGoHere_1 22 rfl rfl)
theorem dX4_isGoHere_47 : decode cX4_isGoHere 47 = .ok (.ireturn, 1) := dk_172 (dk_at dksX4_isGoHere_1 23 rfl rfl)
theorem dX4_isGoHere_48 : decode cX4_isGoHere 48 = .ok (.aload_n 0, 1) := dk_42 (dk_at dksX4_isGoHere_2 0 rfl rfl)
theorem dX4_isGoHere_49 : decode cX4_isGoHere 49 = .ok (.getfield 20, 3) := dk_180 0 20 (dk_at dksX4_isGoHere_2 1 rfl rfl)
theorem dX4_isGoHere_52 : decode cX4_isGoHere 52 = .ok (.iload_n 1, 1) := dk_27 (dk_at dksX4_isGoHere_2 4 rfl rfl)
theorem dX4_isGoHere_53 : decode cX4_isGoHere 53 = .ok (.iconst 1, 1) := dk_4 (dk_at dksX4_isGoHere_2 5 rfl rfl)
theorem dX4_isGoHere_54 : decode cX4_isGoHere 54 = .ok (.iadd, 1) := dk_96 (dk_at dksX4_isGoHere_2 6 rfl rfl)
theorem dX4_isGoHere_55 : decode cX4_isGoHere 55 = .ok (.aload_n 0, 1) := dk_42 (dk_at dksX4_isGoHere_2 7 rfl rfl)
theorem dX4_isGoHere_56 : decode cX4_isGoHere 56 = .ok (.getfield 17, 3) := dk_180 0 17 (dk_at dksX4_isGoHere_2 8 rfl rfl)
theorem dX4_isGoHere_59 : decode cX4_isGoHere 59 = .ok (.aload_n 0, 1) := dk_42 (dk_at dksX4_isGoHere_2 11 rfl rfl)
theorem dX4_isGoHere_60 : decode cX4_isGoHere 60 = .ok (.getfield 156, 3) := dk_180 0 156 (dk_at dksX4_isGoHere_2 12 rfl rfl)
theorem dX4_isGoHere_63 : decode cX4_isGoHere 63 = .ok (.iaload, 1) := dk_46 (dk_at dksX4_isGoHere_2 15 rfl rfl)
theorem dX4_isGoHere_64 : decode cX4_isGoHere 64 = .ok (.iastore, 1) := dk_79 (dk_at dksX4_isGoHere_2 16 rfl rfl)
theorem dX4_isGoHere_65 : decode cX4_isGoHere 65 = .ok (.aload_n 0, 1) := dk_42 (dk_at dksX4_isGoHere_2 17 rfl rfl)
theorem dX4_isGoHere_66 : decode cX4_isGoHere 66 = .ok (.getfield 20, 3) := dk_180 0 20 (dk_at dksX4_isGoHere_2 18 rfl rfl)
theorem dX4_isGoHere_69 : decode cX4_isGoHere 69 = .ok (.iload_n 1, 1) := dk_27 (dk_at dksX4_isGoHere_2 21 rfl rfl)
theorem dX4_isGoHere_70 : decode cX4_isGoHere 70 = .ok (.iconst 2, 1) := dk_5 (dk_at dksX4_isGoHere_2 22 rfl rfl)
theorem dX4_isGoHere_71 : decode cX4_isGoHere 71 = .ok (.iadd, 1) := dk_96 (dk_at dksX4_isGoHere_2 23 rfl rfl)
theorem dX4_isGoHere_72 : decode cX4_isGoHere 72 = .ok (.iconst (-1), 1) := dk_2 (dk_at dksX4_isGoHere_3 0 rfl rfl)
theorem dX4_isGoHere_73 : decode cX4_isGoHere 73 = .ok (.iastore, 1) := dk_79 (dk_at dksX4_isGoHere_3 1 rfl rfl)
theorem dX4_isGoHere_74 : decode cX4_isGoHere 74 = .ok (.aload_n 0, 1) := dk_42 (dk_at dksX4_isGoHere_3 2 rfl rfl)
theorem dX4_isGoHere_75 : decode cX4_isGoHere 75 = .ok (.ldc2_w 220, 3) := dk_20 0 220 (dk_at dksX4_isGoHere_3 3 rfl rfl)
theorem dX4_isGoHere_78 : decode cX4_isGoHere 78 = .ok (.invokevirtual 222, 3) := dk_182 0 222 (dk_at dksX4_isGoHere_3 6 rfl rfl)
theorem dX4_isGoHere_81 : decode cX4_isGoHere 81 = .ok (.ifCond .eq 29, 3) := dk_153 0 29 (dk_at dksX4_isGoHere_3 9 rfl rfl)
theorem dX4_isGoHere_84 : decode cX4_isGoHere 84 = .ok (.aload_n 0, 1) := dk_42 (dk_at dksX4_isGoHere_3 12 rfl rfl)
theorem dX4_isGoHere_85 : decode cX4_isGoHere 85 = .ok (.getfield 20, 3) := dk_180 0 20 (dk_at dksX4_isGoHere_3 13 rfl rfl)
theorem dX4_isGoHere_88 : decode cX4_isGoHere 88 = .ok (.iload_n 1, 1) := dk_27 (dk_at dksX4_isGoHere_3 16 rfl rfl)
theorem dX4_isGoHere_89 : decode cX4_isGoHere 89 = .ok (.iconst 2, 1) := dk_5 (dk_at dksX4_isGoHere_3 17 rfl rfl)
theorem dX4_isGoHere_90 : decode cX4_isGoHere 90 = .ok (.iadd, 1) := dk_96 (dk_at dksX4_isGoHere_3 18 rfl rfl)
theorem dX4_isGoHere_91 : decode cX4_isGoHere 91 = .ok (.aload_n 0, 1) := dk_42 (dk_at dksX4_isGoHere_3 19 rfl rfl)
theorem dX4_isGoHere_92 : decode cX4_isGoHere 92 = .ok (.getfield 17, 3) := dk_180 0 17 (dk_at dksX4_isGoHere_3 20 rfl rfl)
theorem dX4_isGoHere_95 : decode cX4_isGoHere 95 = .ok (.aload_n 0, 1) := dk_42 (dk_at dksX4_isGoHere_3 23 rfl rfl)
theorem dX4_isGoHere_96 : decode cX4_isGoHere 96 = .ok (.getfield 156, 3) := dk_180 0 156 (dk_at dksX4_isGoHere_4 0 rfl rfl)
theorem dX4_isGoHere_99 : decode cX4_isGoHere 99 = .ok (.iaload, 1) := dk_46 (dk_at dksX4_isGoHere_4 3 rfl rfl)
theorem dX4_isGoHere_100 : decode cX4_isGoHere 100 = .ok (.iastore, 1) := dk_79 (dk_at dksX4_isGoHere_4 4 rfl rfl)
theorem dX4_isGoHere_101 : decode cX4_isGoHere 101 = .ok (.aload_n 0, 1) := dk_42 (dk_at dksX4_isGoHere_4 5 rfl rfl)
theorem dX4_isGoHere_102 : decode cX4_isGoHere 102 = .ok (.invokevirtual 225, 3) := dk_182 0 225 (dk_at dksX4_isGoHere_4 6 rfl rfl)
theorem dX4_isGoHere_105 : decode cX4_isGoHere 105 = .ok (.ifCond .ne 5, 3) := dk_154 0 5 (dk_at dksX4_isGoHere_4 9 rfl rfl)
theorem dX4_isGoHere_108 : decode cX4_isGoHere 108 = .ok (.iconst 0, 1) := dk_3 (dk_at dksX4_isGoHere_4 12 rfl rfl)
theorem dX4_isGoHere_109 : decode cX4_isGoHere 109 = .ok (.ireturn, 1) := dk_172 (dk_at dksX4_isGoHere_4 13 rfl rfl)
theorem dX4_isGoHere_110 : decode cX4_isGoHere 110 = .ok (.aload_n 0, 1) := dk_42 (dk_at dksX4_isGoHere_4 14 rfl rfl)
theorem dX4_isGoHere_111 : decode cX4_isGoHere 111 = .ok (.getfield 20, 3) := dk_180 0 20 (dk_at dksX4_isGoHere_4 15 rfl rfl)
theorem dX4_isGoHere_114 : decode cX4_isGoHere 114 = .ok (.iload_n 1, 1) := dk_27 (dk_at dksX4_isGoHere_4 18 rfl rfl)
theorem dX4_isGoHere_115 : decode cX4_isGoHere 115 = .ok (.iconst 3, 1) := dk_6 (dk_at dksX4_isGoHere_4 19 rfl rfl)
theorem dX4_isGoHere_116 : decode cX4_isGoHere 116 = .ok (.iadd, 1) := dk_96 (dk_at dksX4_isGoHere_4 20 rfl rfl)
theorem dX4_isGoHere_117 : decode cX4_isGoHere 117 = .ok (.aload_n 0, 1) := dk_42 (dk_at dksX4_isGoHere_4 21 rfl rfl)
theorem dX4_isGoHere_118 : decode cX4_isGoHere 118 = .ok (.getfield 17, 3) := dk_180 0 17 (dk_at dksX4_isGoHere_5 0 rfl rfl)
theorem dX4_isGoHere_121 : decode cX4_isGoHere 121 = .ok (.aload_n 0, 1) := dk_42 (dk_at dksX4_isGoHere_5 3 rfl rfl)
theorem dX4_isGoHere_122 : decode cX4_isGoHere 122 = .ok (.getfield 156, 3) := dk_180 0 156 (dk_at dksX4_isGoHere_5 4 rfl rfl)
theorem dX4_isGoHere_125 : decode cX4_isGoHere 125 = .ok (.iaload, 1) := dk_46 (dk_at dksX4_isGoHere_5 7 rfl rfl)
theorem dX4_isGoHere_126 : decode cX4_isGoHere 126 = .ok (.iastore, 1) := dk_79 (dk_at dksX4_isGoHere_5 8 rfl rfl)
theorem dX4_isGoHere_127 : decode cX4_isGoHere 127 = .ok (.aload_n 0, 1) := dk_42 (dk_at dksX4_isGoHere_5 9 rfl rfl)
theorem dX4_isGoHere_128 : decode cX4_isGoHere 128 = .ok (.getfield 23, 3) := dk_180 0 23 (dk_at dksX4_isGoHere_5 10 rfl rfl)
theorem dX4_isGoHere_131 : decode cX4_isGoHere 131 = .ok (.aload_n 0, 1) := dk_42 (dk_at dksX4_isGoHere_5 13 rfl rfl)
theorem dX4_isGoHere_132 : decode cX4_isGoHere 132 = .ok (.getfield 156, 3) := dk_180 0 156 (dk_at dksX4_isGoHere_5 14 rfl rfl)
theorem dX4_isGoHere_135 : decode cX4_isGoHere 135 = .ok (.dup2, 1) := dk_92 (dk_at dksX4_isGoHere_5 17 rfl rfl)
theorem dX4_isGoHere_136 : decode cX4_isGoHere 136 = .ok (.iaload, 1) := dk_46 (dk_at dksX4_isGoHere_5 18 rfl rfl)
theorem dX4_isGoHere_137 : decode cX4_isGoHere 137 = .ok (.iconst 1, 1) := dk_4 (dk_at dksX4_isGoHere_5 19 rfl rfl)
theorem dX4_isGoHere_138 : decode cX4_isGoHere 138 = .ok (.iadd, 1) := dk_96 (dk_at dksX4_isGoHere_5 20 rfl rfl)
theorem dX4_isGoHere_139 : decode cX4_isGoHere 139 = .ok (.iastore, 1) := dk_79 (dk_at dksX4_isGoHere_5 21 rfl rfl)
theorem dX4_isGoHere_140 : decode cX4_isGoHere 140 = .ok (.iconst 1, 1) := dk_4 (dk_at dksX4_isGoHere_5 22 rfl rfl)
theorem dX4_isGoHere_141 : decode cX4_isGoHere 141 = .ok (.ireturn, 1) := dk_172 (dk_at dksX4_isGoHere_5 23 rfl rfl)
abbrev cX4_sum : ByteArray := prog_20_method_23_code
def yX4_sum : MethodName := ⟨RX4, "sum", "()Z"⟩
def dkwX4_sum_3 : List UInt8 := [167, 255, 193, 4, 172]
abbrev dktX4_sum_3 : List UInt8 := dkwX4_sum_3 ++ []
def dkwX4_sum_2 : List UInt8 := [89, 180, 0, 100, 4, 96, 181, 0, 100, 42, 182, 0, 190, 154, 0, 5, 3, 172, 42, 27, 3, 182, 0, 172]
abbrev dktX4_sum_2 : List UInt8 := dkwX4_sum_2 ++ dktX4_sum_3
def dkwX4_sum_1 : List UInt8 := [160, 0, 51, 42, 180, 0, 7, 42, 180, 0, 100, 51, 16, 43, 160, 0, 7, 5, 167, 0, 4, 6, 60, 42]
abbrev dktX4_sum_1 : List UInt8 := dkwX4_sum_1 ++ dktX4_sum_2
def dkwX4_sum_0 : List UInt8 := [42, 182, 0, 190, 154, 0, 5, 3, 172, 42, 182, 0, 103, 16, 43, 159, 0, 12, 42, 182, 0, 103, 16, 45]
abbrev dktX4_sum_0 : List UInt8 := dkwX4_sum_0 ++ dktX4_sum_1
theorem dksX4_sum_0 : cX4_sum.data.toList.drop 0 = dktX4_sum_0 := by decide +kernel
theorem dksX4_sum_1 : cX4_sum.data.toList.drop 24 = dktX4_sum_1 := dk_seg dksX4_sum_0 24 rfl rfl
theorem dksX4_sum_2 : cX4_sum.data.toList.drop 48 = dktX4_sum_2 := dk_seg dksX4_sum_1 24 rfl rfl
theorem dksX4_sum_3 : cX4_sum.data.toList.drop 72 = dktX4_sum_3 := dk_seg dksX4_sum_2 24 rfl rfl
theorem dX4_sum_0 : decode cX4_sum 0 = .ok (.aload_n 0, 1) := dk_42 (dk_at dksX4_sum_0 0 rfl rfl)
theorem dX4_sum_1 : decode cX4_sum 1 = .ok (.invokevirtual 190, 3) := dk_182 0 190 (dk_at dksX4_sum_0 1 rfl rfl)
theorem dX4_sum_4 : decode cX4_sum 4 = .ok (.ifCond .ne 5, 3) := dk_154 0 5 (dk_at dksX4_sum_0 4 rfl rfl)
theorem dX4_sum_7 : decode cX4_sum 7 = .ok (.iconst 0, 1) := dk_3 (dk_at dksX4_sum_0 7 rfl rfl)
theorem dX4_sum_8 : decode cX4_sum 8 = .ok (.ireturn, 1) := dk_172 (dk_at dksX4_sum_0 8 rfl rfl)
theorem dX4_sum_9 : decode cX4_sum 9 = .ok (.aload_n 0, 1) := dk_42 (dk_at dksX4_sum_0 9 rfl rfl)
theorem dX4_sum_10 : decode cX4_sum 10 = .ok (.invokevirtual 103, 3) := dk_182 0 103 (dk_at dksX4_sum_0 10 rfl rfl)
theorem dX4_sum_13 : decode cX4_sum 13 = .ok (.bipush 43, 2) := dk_16 43 (dk_at dksX4_sum_0 13 rfl rfl)
theorem dX4_sum_15 : decode cX4_sum 15 = .ok (.if_icmp .eq 12, 3) := dk_159 0 12 (dk_at dksX4_sum_0 15 rfl rfl)
theorem dX4_sum_18 : decode cX4_sum 18 = .ok (.aload_n 0, 1) := dk_42 (dk_at dksX4_sum_0 18 rfl rfl)
theorem dX4_sum_19 : decode cX4_sum 19 = .ok (.invokevirtual 103, 3) := dk_182 0 103 (dk_at dksX4_sum_0 19 rfl rfl)
theorem dX4_sum_22 : decode cX4_sum 22 = .ok (.bipush 45, 2) := dk_16 45 (dk_at dksX4_sum_0 22 rfl rfl)
theorem dX4_sum_24 : decode cX4_sum 24 = .ok (.if_icmp .ne 51, 3) := dk_160 0 51 (dk_at dksX4_sum_1 0 rfl rfl)
theorem dX4_sum_27 : decode cX4_sum 27 = .ok (.aload_n 0, 1) := dk_42 (dk_at dksX4_sum_1 3 rfl rfl)
theorem dX4_sum_28 : decode cX4_sum 28 = .ok (.getfield 7, 3) := dk_180 0 7 (dk_at dksX4_sum_1 4 rfl rfl)
theorem dX4_sum_31 : decode cX4_sum 31 = .ok (.aload_n 0, 1) := dk_42 (dk_at dksX4_sum_1 7 rfl rfl)
theorem dX4_sum_32 : decode cX4_sum 32 = .ok (.getfield 100, 3) := dk_180 0 100 (dk_at dksX4_sum_1 8 rfl rfl)
theorem dX4_sum_35 : decode cX4_sum 35 = .ok (.baload, 1) := dk_51 (dk_at dksX4_sum_1 11 rfl rfl)
theorem dX4_sum_36 : decode cX4_sum 36 = .ok (.bipush 43, 2) := dk_16 43 (dk_at dksX4_sum_1 12 rfl rfl)
theorem dX4_sum_38 : decode cX4_sum 38 = .ok (.if_icmp .ne 7, 3) := dk_160 0 7 (dk_at dksX4_sum_1 14 rfl rfl)
theorem dX4_sum_41 : decode cX4_sum 41 = .ok (.iconst 2, 1) := dk_5 (dk_at dksX4_sum_1 17 rfl rfl)
theorem dX4_sum_42 : decode cX4_sum 42 = .ok (.goto 4, 3) := dk_167 0 4 (dk_at dksX4_sum_1 18 rfl rfl)
theorem dX4_sum_45 : decode cX4_sum 45 = .ok (.iconst 3, 1) := dk_6 (dk_at dksX4_sum_1 21 rfl rfl)
theorem dX4_sum_46 : decode cX4_sum 46 = .ok (.istore_n 1, 1) := dk_60 (dk_at dksX4_sum_1 22 rfl rfl)
theorem dX4_sum_47 : decode cX4_sum 47 = .ok (.aload_n 0, 1) := dk_42 (dk_at dksX4_sum_1 23 rfl rfl)
theorem dX4_sum_48 : decode cX4_sum 48 = .ok (.dup, 1) := dk_89 (dk_at dksX4_sum_2 0 rfl rfl)
theorem dX4_sum_49 : decode cX4_sum 49 = .ok (.getfield 100, 3) := dk_180 0 100 (dk_at dksX4_sum_2 1 rfl rfl)
theorem dX4_sum_52 : decode cX4_sum 52 = .ok (.iconst 1, 1) := dk_4 (dk_at dksX4_sum_2 4 rfl rfl)
theorem dX4_sum_53 : decode cX4_sum 53 = .ok (.iadd, 1) := dk_96 (dk_at dksX4_sum_2 5 rfl rfl)
theorem dX4_sum_54 : decode cX4_sum 54 = .ok (.putfield 100, 3) := dk_181 0 100 (dk_at dksX4_sum_2 6 rfl rfl)
theorem dX4_sum_57 : decode cX4_sum 57 = .ok (.aload_n 0, 1) := dk_42 (dk_at dksX4_sum_2 9 rfl rfl)
theorem dX4_sum_58 : decode cX4_sum 58 = .ok (.invokevirtual 190, 3) := dk_182 0 190 (dk_at dksX4_sum_2 10 rfl rfl)
theorem dX4_sum_61 : decode cX4_sum 61 = .ok (.ifCond .ne 5, 3) := dk_154 0 5 (dk_at dksX4_sum_2 13 rfl rfl)
theorem dX4_sum_64 : decode cX4_sum 64 = .ok (.iconst 0, 1) := dk_3 (dk_at dksX4_sum_2 16 rfl rfl)
theorem dX4_sum_65 : decode cX4_sum 65 = .ok (.ireturn, 1) := dk_172 (dk_at dksX4_sum_2 17 rfl rfl)
theorem dX4_sum_66 : decode cX4_sum 66 = .ok (.aload_n 0, 1) := dk_42 (dk_at dksX4_sum_2 18 rfl rfl)
theorem dX4_sum_67 : decode cX4_sum 67 = .ok (.iload_n 1, 1) := dk_27 (dk_at dksX4_sum_2 19 rfl rfl)
theorem dX4_sum_68 : decode cX4_sum 68 = .ok (.iconst 0, 1) := dk_3 (dk_at dksX4_sum_2 20 rfl rfl)
theorem dX4_sum_69 : decode cX4_sum 69 = .ok (.invokevirtual 172, 3) := dk_182 0 172 (dk_at dksX4_sum_2 21 rfl rfl)
theorem dX4_sum_72 : decode cX4_sum 72 = .ok (.goto (-63), 3) := dk_167 255 193 (dk_at dksX4_sum_3 0 rfl rfl)
theorem dX4_sum_75 : decode cX4_sum 75 = .ok (.iconst 1, 1) := dk_4 (dk_at dksX4_sum_3 3 rfl rfl)
theorem dX4_sum_76 : decode cX4_sum 76 = .ok (.ireturn, 1) := dk_172 (dk_at dksX4_sum_3 4 rfl rfl)
abbrev cX4_term : ByteArray := prog_20_method_22_code
def yX4_term : MethodName := ⟨RX4, "term", "()Z"⟩
def dkwX4_term_4 : List UInt8 := [172, 42, 27, 3, 182, 0, 172, 167, 255, 165, 4, 172]
abbrev dktX4_term_4 : List UInt8 := dkwX4_term_4 ++ []
def dkwX4_term_3 : List UInt8 := [167, 0, 5, 16, 14, 60, 42, 89, 180, 0, 100, 4, 96, 181, 0, 100, 42, 182, 0, 186, 154, 0, 5, 3]
abbrev dktX4_term_3 : List UInt8 := dkwX4_term_3 ++ dktX4_term_4
def dkwX4_term_2 : List UInt8 := [160, 0, 7, 7, 167, 0, 23, 42, 180, 0, 7, 42, 180, 0, 100, 51, 16, 47, 160, 0, 7, 8]
abbrev dktX4_term_2 : List UInt8 := dkwX4_term_2 ++ dktX4_term_3
def dkwX4_term_1 : List UInt8 := [159, 0, 12, 42, 182, 0, 103, 16, 37, 160, 0, 70, 42, 180, 0, 7, 42, 180, 0, 100, 51, 16, 42]
abbrev dktX4_term_1 : List UInt8 := dkwX4_term_1 ++ dktX4_term_2
def dkwX4_term_0 : List UInt8 := [42, 182, 0, 186, 154, 0, 5, 3, 172, 42, 182, 0, 103, 16, 42, 159, 0, 21, 42, 182, 0, 103, 16, 47]
abbrev dktX4_term_0 : List UInt8 := dkwX4_term_0 ++ dktX4_term_1
theorem dksX4_term_0 : cX4_term.data.toList.drop 0 = dktX4_term_0 := by decide +kernel
theorem dksX4_term_1 : cX4_term.data.toList.drop 24 = dktX4_term_1 := dk_seg dksX4_term_0 24 rfl rfl
theorem dksX4_term_2 : cX4_term.data.toList.drop 47 = dktX4_term_2 := dk_seg dksX4_term_1 23 rfl rfl
theorem dksX4_term_3 : cX4_term.data.toList.drop 69 = dktX4_term_3 := dk_seg dksX4_term_2 22 rfl rfl
theorem dksX4_term_4 : cX4_term.data.toList.drop 93 = dktX4_term_4 := dk_seg dksX4_term_3 24 rfl rfl
theorem dX4_term_0 : decode cX4_term 0 = .ok (.aload_n 0, 1) := dk_42 (dk_at dksX4_term_0 0 rfl rfl)
theorem dX4_term_1 : decode cX4_term 1 = .ok (.invokevirtual 186, 3) := dk_182 0 186 (dk_at dksX4_term_0 1 rfl rfl)
theorem dX4_term_4 : decode cX4_term 4 = .ok (.ifCond .ne 5, 3) := dk_154 0 5 (dk_at dksX4_term_0 4 rfl rfl)
theorem dX4_term_7 : decode cX4_term 7 = .ok (.iconst 0, 1) := dk_3 (dk_at dksX4_term_0 7 rfl rfl)
theorem dX4_term_8 : decode cX4_term 8 = .ok (.ireturn, 1) := dk_172 (dk_at dksX4_term_0 8 rfl rfl)
theorem dX4_term_9 : decode cX4_term 9 = .ok (.aload_n 0, 1) := dk_42 (dk_at dksX4_term_0 9 rfl rfl)
theorem dX4_term_10 : decode cX4_term 10 = .ok (.invokevirtual 103, 3) := dk_182 0 103 (dk_at dksX4_term_0 10 rfl rfl)
theorem dX4_term_13 : decode cX4_term 13 = .ok (.bipush 42, 2) := dk_16 42 (dk_at dksX4_term_0 13 rfl rfl)
theorem dX4_term_15 : decode cX4_term 15 = .ok (.if_icmp .eq 21, 3) := dk_159 0 21 (dk_at dksX4_term_0 15 rfl rfl)
theorem dX4_term_18 : decode cX4_term 18 = .ok (.aload_n 0, 1) := dk_42 (dk_at dksX4_term_0 18 rfl rfl)
theorem dX4_term_19 : decode cX4_term 19 = .ok (.invokevirtual 103, 3) := dk_182 0 103 (dk_at dksX4_term_0 19 rfl rfl)
theorem dX4_term_22 : decode cX4_term 22 = .ok (.bipush 47, 2) := dk_16 47 (dk_at dksX4_term_0 22 rfl rfl)
theorem dX4_term_24 : decode cX4_term 24 = .ok (.if_icmp .eq 12, 3) := dk_159 0 12 (dk_at dksX4_term_1 0 rfl rfl)
theorem dX4_term_27 : decode cX4_term 27 = .ok (.aload_n 0, 1) := dk_42 (dk_at dksX4_term_1 3 rfl rfl)
theorem dX4_term_28 : decode cX4_term 28 = .ok (.invokevirtual 103, 3) := dk_182 0 103 (dk_at dksX4_term_1 4 rfl rfl)
theorem dX4_term_31 : decode cX4_term 31 = .ok (.bipush 37, 2) := dk_16 37 (dk_at dksX4_term_1 7 rfl rfl)
theorem dX4_term_33 : decode cX4_term 33 = .ok (.if_icmp .ne 70, 3) := dk_160 0 70 (dk_at dksX4_term_1 9 rfl rfl)
theorem dX4_term_36 : decode cX4_term 36 = .ok (.aload_n 0, 1) := dk_42 (dk_at dksX4_term_1 12 rfl rfl)
theorem dX4_term_37 : decode cX4_term 37 = .ok (.getfield 7, 3) := dk_180 0 7 (dk_at dksX4_term_1 13 rfl rfl)
theorem dX4_term_40 : decode cX4_term 40 = .ok (.aload_n 0, 1) := dk_42 (dk_at dksX4_term_1 16 rfl rfl)
theorem dX4_term_41 : decode cX4_term 41 = .ok (.getfield 100, 3) := dk_180 0 100 (dk_at dksX4_term_1 17 rfl rfl)
theorem dX4_term_44 : decode cX4_term 44 = .ok (.baload, 1) := dk_51 (dk_at dksX4_term_1 20 rfl rfl)
theorem dX4_term_45 : decode cX4_term 45 = .ok (.bipush 42, 2) := dk_16 42 (dk_at dksX4_term_1 21 rfl rfl)
theorem dX4_term_47 : decode cX4_term 47 = .ok (.if_icmp .ne 7, 3) := dk_160 0 7 (dk_at dksX4_term_2 0 rfl rfl)
theorem dX4_term_50 : decode cX4_term 50 = .ok (.iconst 4, 1) := dk_7 (dk_at dksX4_term_2 3 rfl rfl)
theorem dX4_term_51 : decode cX4_term 51 = .ok (.goto 23, 3) := dk_167 0 23 (dk_at dksX4_term_2 4 rfl rfl)
theorem dX4_term_54 : decode cX4_term 54 = .ok (.aload_n 0, 1) := dk_42 (dk_at dksX4_term_2 7 rfl rfl)
theorem dX4_term_55 : decode cX4_term 55 = .ok (.getfield 7, 3) := dk_180 0 7 (dk_at dksX4_term_2 8 rfl rfl)
theorem dX4_term_58 : decode cX4_term 58 = .ok (.aload_n 0, 1) := dk_42 (dk_at dksX4_term_2 11 rfl rfl)
theorem dX4_term_59 : decode cX4_term 59 = .ok (.getfield 100, 3) := dk_180 0 100 (dk_at dksX4_term_2 12 rfl rfl)
theorem dX4_term_62 : decode cX4_term 62 = .ok (.baload, 1) := dk_51 (dk_at dksX4_term_2 15 rfl rfl)
theorem dX4_term_63 : decode cX4_term 63 = .ok (.bipush 47, 2) := dk_16 47 (dk_at dksX4_term_2 16 rfl rfl)
theorem dX4_term_65 : decode cX4_term 65 = .ok (.if_icmp .ne 7, 3) := dk_160 0 7 (dk_at dksX4_term_2 18 rfl rfl)
theorem dX4_term_68 : decode cX4_term 68 = .ok (.iconst 5, 1) := dk_8 (dk_at dksX4_term_2 21 rfl rfl)
theorem dX4_term_69 : decode cX4_term 69 = .ok (.goto 5, 3) := dk_167 0 5 (dk_at dksX4_term_3 0 rfl rfl)
theorem dX4_term_72 : decode cX4_term 72 = .ok (.bipush 14, 2) := dk_16 14 (dk_at dksX4_term_3 3 rfl rfl)
theorem dX4_term_74 : decode cX4_term 74 = .ok (.istore_n 1, 1) := dk_60 (dk_at dksX4_term_3 5 rfl rfl)
theorem dX4_term_75 : decode cX4_term 75 = .ok (.aload_n 0, 1) := dk_42 (dk_at dksX4_term_3 6 rfl rfl)
theorem dX4_term_76 : decode cX4_term 76 = .ok (.dup, 1) := dk_89 (dk_at dksX4_term_3 7 rfl rfl)
theorem dX4_term_77 : decode cX4_term 77 = .ok (.getfield 100, 3) := dk_180 0 100 (dk_at dksX4_term_3 8 rfl rfl)
theorem dX4_term_80 : decode cX4_term 80 = .ok (.iconst 1, 1) := dk_4 (dk_at dksX4_term_3 11 rfl rfl)
theorem dX4_term_81 : decode cX4_term 81 = .ok (.iadd, 1) := dk_96 (dk_at dksX4_term_3 12 rfl rfl)
theorem dX4_term_82 : decode cX4_term 82 = .ok (.putfield 100, 3) := dk_181 0 100 (dk_at dksX4_term_3 13 rfl rfl)
theorem dX4_term_85 : decode cX4_term 85 = .ok (.aload_n 0, 1) := dk_42 (dk_at dksX4_term_3 16 rfl rfl)
theorem dX4_term_86 : decode cX4_term 86 = .ok (.invokevirtual 186, 3) := dk_182 0 186 (dk_at dksX4_term_3 17 rfl rfl)
theorem dX4_term_89 : decode cX4_term 89 = .ok (.ifCond .ne 5, 3) := dk_154 0 5 (dk_at dksX4_term_3 20 rfl rfl)
theorem dX4_term_92 : decode cX4_term 92 = .ok (.iconst 0, 1) := dk_3 (dk_at dksX4_term_3 23 rfl rfl)
theorem dX4_term_93 : decode cX4_term 93 = .ok (.ireturn, 1) := dk_172 (dk_at dksX4_term_4 0 rfl rfl)
theorem dX4_term_94 : decode cX4_term 94 = .ok (.aload_n 0, 1) := dk_42 (dk_at dksX4_term_4 1 rfl rfl)
theorem dX4_term_95 : decode cX4_term 95 = .ok (.iload_n 1, 1) := dk_27 (dk_at dksX4_term_4 2 rfl rfl)
theorem dX4_term_96 : decode cX4_term 96 = .ok (.iconst 0, 1) := dk_3 (dk_at dksX4_term_4 3 rfl rfl)
theorem dX4_term_97 : decode cX4_term 97 = .ok (.invokevirtual 172, 3) := dk_182 0 172 (dk_at dksX4_term_4 4 rfl rfl)
theorem dX4_term_100 : decode cX4_term 100 = .ok (.goto (-91), 3) := dk_167 255 165 (dk_at dksX4_term_4 7 rfl rfl)
theorem dX4_term_103 : decode cX4_term 103 = .ok (.iconst 1, 1) := dk_4 (dk_at dksX4_term_4 10 rfl rfl)
theorem dX4_term_104 : decode cX4_term 104 = .ok (.ireturn, 1) := dk_172 (dk_at dksX4_term_4 11 rfl rfl)
abbrev cX4_value : ByteArray := prog_20_method_21_code
def yX4_value : MethodName := ⟨RX4, "value", "()Z"⟩
def dkwX4_value_3 : List UInt8 := [182, 0, 180, 154, 0, 5, 3, 172, 42, 182, 0, 115, 42, 4, 28, 182, 0, 172, 4, 172]
abbrev dktX4_value_3 : List UInt8 := dkwX4_value_3 ++ []
def dkwX4_value_2 : List UInt8 := [182, 0, 172, 4, 172, 42, 182, 0, 183, 61, 28, 156, 0, 10, 42, 3, 27, 182, 0, 121, 172, 42, 27]
abbrev dktX4_value_2 : List UInt8 := dkwX4_value_2 ++ dktX4_value_3
def dkwX4_value_1 : List UInt8 := [18, 176, 182, 0, 177, 153, 0, 11, 42, 27, 182, 0, 180, 154, 0, 5, 3, 172, 42, 3, 42, 180, 0, 125]
abbrev dktX4_value_1 : List UInt8 := dkwX4_value_1 ++ dktX4_value_2
def dkwX4_value_0 : List UInt8 := [42, 182, 0, 103, 87, 42, 180, 0, 100, 60, 42, 42, 180, 0, 100, 182, 0, 118, 153, 0, 34, 42, 3]
abbrev dktX4_value_0 : List UInt8 := dkwX4_value_0 ++ dktX4_value_1
theorem dksX4_value_0 : cX4_value.data.toList.drop 0 = dktX4_value_0 := by decide +kernel
theorem dksX4_value_1 : cX4_value.data.toList.drop 23 = dktX4_value_1 := dk_seg dksX4_value_0 23 rfl rfl
theorem dksX4_value_2 : cX4_value.data.toList.drop 47 = dktX4_value_2 := dk_seg dksX4_value_1 24 rfl rfl
theorem dksX4_value_3 : cX4_value.data.toList.drop 70 = dktX4_value_3 := dk_seg dksX4_value_2 23 rfl rfl
theorem dX4_value_0 : decode cX4_value 0 = .ok (.aload_n 0, 1) := dk_42 (dk_at dksX4_value_0 0 rfl rfl)
theorem dX4_value_1 : decode cX4_value 1 = .ok (.invokevirtual 103, 3) := dk_182 0 103 (dk_at dksX4_value_0 1 rfl rfl)
theorem dX4_value_4 : decode cX4_value 4 = .ok (.pop, 1) := dk_87 (dk_at dksX4_value_0 4 rfl rfl)
theorem dX4_value_5 : decode cX4_value 5 = .ok (.aload_n 0, 1) := dk_42 (dk_at dksX4_value_0 5 rfl rfl)
theorem dX4_value_6 : decode cX4_value 6 = .ok (.getfield 100, 3) := dk_180 0 100 (dk_at dksX4_value_0 6 rfl rfl)
theorem dX4_value_9 : decode cX4_value 9 = .ok (.istore_n 1, 1) := dk_60 (dk_at dksX4_value_0 9 rfl rfl)
theorem dX4_value_10 : decode cX4_value 10 = .ok (.aload_n 0, 1) := dk_42 (dk_at dksX4_value_0 10 rfl rfl)
theorem dX4_value_11 : decode cX4_value 11 = .ok (.aload_n 0, 1) := dk_42 (dk_at dksX4_value_0 11 rfl rfl)
theorem dX4_value_12 : decode cX4_value 12 = .ok (.getfield 100, 3) := dk_180 0 100 (dk_at dksX4_value_0 12 rfl rfl)
theorem dX4_value_15 : decode cX4_value 15 = .ok (.invokevirtual 118, 3) := dk_182 0 118 (dk_at dksX4_value_0 15 rfl rfl)
theorem dX4_value_18 : decode cX4_value 18 = .ok (.ifCond .eq 34, 3) := dk_153 0 34 (dk_at dksX4_value_0 18 rfl rfl)
theorem dX4_value_21 : decode cX4_value 21 = .ok (.aload_n 0, 1) := dk_42 (dk_at dksX4_value_0 21 rfl rfl)
theorem dX4_value_22 : decode cX4_value 22 = .ok (.iconst 0, 1) := dk_3 (dk_at dksX4_value_0 22 rfl rfl)
theorem dX4_value_23 : decode cX4_value 23 = .ok (.ldc 176, 2) := dk_18 176 (dk_at dksX4_value_1 0 rfl rfl)
theorem dX4_value_25 : decode cX4_value 25 = .ok (.invokevirtual 177, 3) := dk_182 0 177 (dk_at dksX4_value_1 2 rfl rfl)
theorem dX4_value_28 : decode cX4_value 28 = .ok (.ifCond .eq 11, 3) := dk_153 0 11 (dk_at dksX4_value_1 5 rfl rfl)
theorem dX4_value_31 : decode cX4_value 31 = .ok (.aload_n 0, 1) := dk_42 (dk_at dksX4_value_1 8 rfl rfl)
theorem dX4_value_32 : decode cX4_value 32 = .ok (.iload_n 1, 1) := dk_27 (dk_at dksX4_value_1 9 rfl rfl)
theorem dX4_value_33 : decode cX4_value 33 = .ok (.invokevirtual 180, 3) := dk_182 0 180 (dk_at dksX4_value_1 10 rfl rfl)
theorem dX4_value_36 : decode cX4_value 36 = .ok (.ifCond .ne 5, 3) := dk_154 0 5 (dk_at dksX4_value_1 13 rfl rfl)
theorem dX4_value_39 : decode cX4_value 39 = .ok (.iconst 0, 1) := dk_3 (dk_at dksX4_value_1 16 rfl rfl)
theorem dX4_value_40 : decode cX4_value 40 = .ok (.ireturn, 1) := dk_172 (dk_at dksX4_value_1 17 rfl rfl)
theorem dX4_value_41 : decode cX4_value 41 = .ok (.aload_n 0, 1) := dk_42 (dk_at dksX4_value_1 18 rfl rfl)
theorem dX4_value_42 : decode cX4_value 42 = .ok (.iconst 0, 1) := dk_3 (dk_at dksX4_value_1 19 rfl rfl)
theorem dX4_value_43 : decode cX4_value 43 = .ok (.aload_n 0, 1) := dk_42 (dk_at dksX4_value_1 20 rfl rfl)
theorem dX4_value_44 : decode cX4_value 44 = .ok (.getfield 125, 3) := dk_180 0 125 (dk_at dksX4_value_1 21 rfl rfl)
theorem dX4_value_47 : decode cX4_value 47 = .ok (.invokevirtual 172, 3) := dk_182 0 172 (dk_at dksX4_value_2 0 rfl rfl)
theorem dX4_value_50 : decode cX4_value 50 = .ok (.iconst 1, 1) := dk_4 (dk_at dksX4_value_2 3 rfl rfl)
theorem dX4_value_51 : decode cX4_value 51 = .ok (.ireturn, 1) := dk_172 (dk_at dksX4_value_2 4 rfl rfl)
theorem dX4_value_52 : decode cX4_value 52 = .ok (.aload_n 0, 1) := dk_42 (dk_at dksX4_value_2 5 rfl rfl)
theorem dX4_value_53 : decode cX4_value 53 = .ok (.invokevirtual 183, 3) := dk_182 0 183 (dk_at dksX4_value_2 6 rfl rfl)
theorem dX4_value_56 : decode cX4_value 56 = .ok (.istore_n 2, 1) := dk_61 (dk_at dksX4_value_2 9 rfl rfl)
theorem dX4_value_57 : decode cX4_value 57 = .ok (.iload_n 2, 1) := dk_28 (dk_at dksX4_value_2 10 rfl rfl)
theorem dX4_value_58 : decode cX4_value 58 = .ok (.ifCond .ge 10, 3) := dk_156 0 10 (dk_at dksX4_value_2 11 rfl rfl)
theorem dX4_value_61 : decode cX4_value 61 = .ok (.aload_n 0, 1) := dk_42 (dk_at dksX4_value_2 14 rfl rfl)
theorem dX4_value_62 : decode cX4_value 62 = .ok (.iconst 0, 1) := dk_3 (dk_at dksX4_value_2 15 rfl rfl)
theorem dX4_value_63 : decode cX4_value 63 = .ok (.iload_n 1, 1) := dk_27 (dk_at dksX4_value_2 16 rfl rfl)
theorem dX4_value_64 : decode cX4_value 64 = .ok (.invokevirtual 121, 3) := dk_182 0 121 (dk_at dksX4_value_2 17 rfl rfl)
theorem dX4_value_67 : decode cX4_value 67 = .ok (.ireturn, 1) := dk_172 (dk_at dksX4_value_2 20 rfl rfl)
theorem dX4_value_68 : decode cX4_value 68 = .ok (.aload_n 0, 1) := dk_42 (dk_at dksX4_value_2 21 rfl rfl)
theorem dX4_value_69 : decode cX4_value 69 = .ok (.iload_n 1, 1) := dk_27 (dk_at dksX4_value_2 22 rfl rfl)
theorem dX4_value_70 : decode cX4_value 70 = .ok (.invokevirtual 180, 3) := dk_182 0 180 (dk_at dksX4_value_3 0 rfl rfl)
theorem dX4_value_73 : decode cX4_value 73 = .ok (.ifCond .ne 5, 3) := dk_154 0 5 (dk_at dksX4_value_3 3 rfl rfl)
theorem dX4_value_76 : decode cX4_value 76 = .ok (.iconst 0, 1) := dk_3 (dk_at dksX4_value_3 6 rfl rfl)
theorem dX4_value_77 : decode cX4_value 77 = .ok (.ireturn, 1) := dk_172 (dk_at dksX4_value_3 7 rfl rfl)
theorem dX4_value_78 : decode cX4_value 78 = .ok (.aload_n 0, 1) := dk_42 (dk_at dksX4_value_3 8 rfl rfl)
theorem dX4_value_79 : decode cX4_value 79 = .ok (.invokevirtual 115, 3) := dk_182 0 115 (dk_at dksX4_value_3 9 rfl rfl)
theorem dX4_value_82 : decode cX4_value 82 = .ok (.aload_n 0, 1) := dk_42 (dk_at dksX4_value_3 12 rfl rfl)
theorem dX4_value_83 : decode cX4_value 83 = .ok (.iconst 1, 1) := dk_4 (dk_at dksX4_value_3 13 rfl rfl)
theorem dX4_value_84 : decode cX4_value 84 = .ok (.iload_n 2, 1) := dk_28 (dk_at dksX4_value_3 14 rfl rfl)
theorem dX4_value_85 : decode cX4_value 85 = .ok (.invokevirtual 172, 3) := dk_182 0 172 (dk_at dksX4_value_3 15 rfl rfl)
theorem dX4_value_88 : decode cX4_value 88 = .ok (.iconst 1, 1) := dk_4 (dk_at dksX4_value_3 18 rfl rfl)
theorem dX4_value_89 : decode cX4_value 89 = .ok (.ireturn, 1) := dk_172 (dk_at dksX4_value_3 19 rfl rfl)
abbrev cX4_makes : ByteArray := prog_20_method_17_code
def yX4_makes : MethodName := ⟨RX4, "makes", "(I)Z"⟩
def dkwX4_makes_1 : List UInt8 := [181, 0, 159, 4, 172]
abbrev dktX4_makes_1 : List UInt8 := dkwX4_makes_1 ++ []
def dkwX4_makes_0 : List UInt8 := [42, 180, 0, 159, 16, 60, 160, 0, 10, 42, 6, 27, 182, 0, 121, 172, 42, 89, 180, 0, 159, 4, 96]
abbrev dktX4_makes_0 : List UInt8 := dkwX4_makes_0 ++ dktX4_makes_1
theorem dksX4_makes_0 : cX4_makes.data.toList.drop 0 = dktX4_makes_0 := by decide +kernel
theorem dksX4_makes_1 : cX4_makes.data.toList.drop 23 = dktX4_makes_1 := dk_seg dksX4_makes_0 23 rfl rfl
theorem dX4_makes_0 : decode cX4_makes 0 = .ok (.aload_n 0, 1) := dk_42 (dk_at dksX4_makes_0 0 rfl rfl)
theorem dX4_makes_1 : decode cX4_makes 1 = .ok (.getfield 159, 3) := dk_180 0 159 (dk_at dksX4_makes_0 1 rfl rfl)
theorem dX4_makes_4 : decode cX4_makes 4 = .ok (.bipush 60, 2) := dk_16 60 (dk_at dksX4_makes_0 4 rfl rfl)
theorem dX4_makes_6 : decode cX4_makes 6 = .ok (.if_icmp .ne 10, 3) := dk_160 0 10 (dk_at dksX4_makes_0 6 rfl rfl)
theorem dX4_makes_9 : decode cX4_makes 9 = .ok (.aload_n 0, 1) := dk_42 (dk_at dksX4_makes_0 9 rfl rfl)
theorem dX4_makes_10 : decode cX4_makes 10 = .ok (.iconst 3, 1) := dk_6 (dk_at dksX4_makes_0 10 rfl rfl)
theorem dX4_makes_11 : decode cX4_makes 11 = .ok (.iload_n 1, 1) := dk_27 (dk_at dksX4_makes_0 11 rfl rfl)
theorem dX4_makes_12 : decode cX4_makes 12 = .ok (.invokevirtual 121, 3) := dk_182 0 121 (dk_at dksX4_makes_0 12 rfl rfl)
theorem dX4_makes_15 : decode cX4_makes 15 = .ok (.ireturn, 1) := dk_172 (dk_at dksX4_makes_0 15 rfl rfl)
theorem dX4_makes_16 : decode cX4_makes 16 = .ok (.aload_n 0, 1) := dk_42 (dk_at dksX4_makes_0 16 rfl rfl)
theorem dX4_makes_17 : decode cX4_makes 17 = .ok (.dup, 1) := dk_89 (dk_at dksX4_makes_0 17 rfl rfl)
theorem dX4_makes_18 : decode cX4_makes 18 = .ok (.getfield 159, 3) := dk_180 0 159 (dk_at dksX4_makes_0 18 rfl rfl)
theorem dX4_makes_21 : decode cX4_makes 21 = .ok (.iconst 1, 1) := dk_4 (dk_at dksX4_makes_0 21 rfl rfl)
theorem dX4_makes_22 : decode cX4_makes 22 = .ok (.iadd, 1) := dk_96 (dk_at dksX4_makes_0 22 rfl rfl)
theorem dX4_makes_23 : decode cX4_makes 23 = .ok (.putfield 159, 3) := dk_181 0 159 (dk_at dksX4_makes_1 0 rfl rfl)
theorem dX4_makes_26 : decode cX4_makes 26 = .ok (.iconst 1, 1) := dk_4 (dk_at dksX4_makes_1 3 rfl rfl)
theorem dX4_makes_27 : decode cX4_makes 27 = .ok (.ireturn, 1) := dk_172 (dk_at dksX4_makes_1 4 rfl rfl)
abbrev cX4_puts : ByteArray := prog_20_method_16_code
def yX4_puts : MethodName := ⟨RX4, "puts", "(II)V"⟩
def dkwX4_puts_1 : List UInt8 := [16, 16, 28, 104, 96, 79, 42, 180, 0, 17, 42, 180, 0, 156, 92, 46, 4, 96, 79, 177]
abbrev dktX4_puts_1 : List UInt8 := dkwX4_puts_1 ++ []
def dkwX4_puts_0 : List UInt8 := [42, 180, 0, 13, 17, 1, 144, 42, 180, 0, 156, 104, 42, 180, 0, 17, 42, 180, 0, 156, 46, 96, 27]
abbrev dktX4_puts_0 : List UInt8 := dkwX4_puts_0 ++ dktX4_puts_1
theorem dksX4_puts_0 : cX4_puts.data.toList.drop 0 = dktX4_puts_0 := by decide +kernel
theorem dksX4_puts_1 : cX4_puts.data.toList.drop 23 = dktX4_puts_1 := dk_seg dksX4_puts_0 23 rfl rfl
theorem dX4_puts_0 : decode cX4_puts 0 = .ok (.aload_n 0, 1) := dk_42 (dk_at dksX4_puts_0 0 rfl rfl)
theorem dX4_puts_1 : decode cX4_puts 1 = .ok (.getfield 13, 3) := dk_180 0 13 (dk_at dksX4_puts_0 1 rfl rfl)
theorem dX4_puts_4 : decode cX4_puts 4 = .ok (.sipush 400, 3) := dk_17 1 144 (dk_at dksX4_puts_0 4 rfl rfl)
theorem dX4_puts_7 : decode cX4_puts 7 = .ok (.aload_n 0, 1) := dk_42 (dk_at dksX4_puts_0 7 rfl rfl)
theorem dX4_puts_8 : decode cX4_puts 8 = .ok (.getfield 156, 3) := dk_180 0 156 (dk_at dksX4_puts_0 8 rfl rfl)
theorem dX4_puts_11 : decode cX4_puts 11 = .ok (.imul, 1) := dk_104 (dk_at dksX4_puts_0 11 rfl rfl)
theorem dX4_puts_12 : decode cX4_puts 12 = .ok (.aload_n 0, 1) := dk_42 (dk_at dksX4_puts_0 12 rfl rfl)
theorem dX4_puts_13 : decode cX4_puts 13 = .ok (.getfield 17, 3) := dk_180 0 17 (dk_at dksX4_puts_0 13 rfl rfl)
theorem dX4_puts_16 : decode cX4_puts 16 = .ok (.aload_n 0, 1) := dk_42 (dk_at dksX4_puts_0 16 rfl rfl)
theorem dX4_puts_17 : decode cX4_puts 17 = .ok (.getfield 156, 3) := dk_180 0 156 (dk_at dksX4_puts_0 17 rfl rfl)
theorem dX4_puts_20 : decode cX4_puts 20 = .ok (.iaload, 1) := dk_46 (dk_at dksX4_puts_0 20 rfl rfl)
theorem dX4_puts_21 : decode cX4_puts 21 = .ok (.iadd, 1) := dk_96 (dk_at dksX4_puts_0 21 rfl rfl)
theorem dX4_puts_22 : decode cX4_puts 22 = .ok (.iload_n 1, 1) := dk_27 (dk_at dksX4_puts_0 22 rfl rfl)
theorem dX4_puts_23 : decode cX4_puts 23 = .ok (.bipush 16, 2) := dk_16 16 (dk_at dksX4_puts_1 0 rfl rfl)
theorem dX4_puts_25 : decode cX4_puts 25 = .ok (.iload_n 2, 1) := dk_28 (dk_at dksX4_puts_1 2 rfl rfl)
theorem dX4_puts_26 : decode cX4_puts 26 = .ok (.imul, 1) := dk_104 (dk_at dksX4_puts_1 3 rfl rfl)
theorem dX4_puts_27 : decode cX4_puts 27 = .ok (.iadd, 1) := dk_96 (dk_at dksX4_puts_1 4 rfl rfl)
theorem dX4_puts_28 : decode cX4_puts 28 = .ok (.iastore, 1) := dk_79 (dk_at dksX4_puts_1 5 rfl rfl)
theorem dX4_puts_29 : decode cX4_puts 29 = .ok (.aload_n 0, 1) := dk_42 (dk_at dksX4_puts_1 6 rfl rfl)
theorem dX4_puts_30 : decode cX4_puts 30 = .ok (.getfield 17, 3) := dk_180 0 17 (dk_at dksX4_puts_1 7 rfl rfl)
theorem dX4_puts_33 : decode cX4_puts 33 = .ok (.aload_n 0, 1) := dk_42 (dk_at dksX4_puts_1 10 rfl rfl)
theorem dX4_puts_34 : decode cX4_puts 34 = .ok (.getfield 156, 3) := dk_180 0 156 (dk_at dksX4_puts_1 11 rfl rfl)
theorem dX4_puts_37 : decode cX4_puts 37 = .ok (.dup2, 1) := dk_92 (dk_at dksX4_puts_1 14 rfl rfl)
theorem dX4_puts_38 : decode cX4_puts 38 = .ok (.iaload, 1) := dk_46 (dk_at dksX4_puts_1 15 rfl rfl)
theorem dX4_puts_39 : decode cX4_puts 39 = .ok (.iconst 1, 1) := dk_4 (dk_at dksX4_puts_1 16 rfl rfl)
theorem dX4_puts_40 : decode cX4_puts 40 = .ok (.iadd, 1) := dk_96 (dk_at dksX4_puts_1 17 rfl rfl)
theorem dX4_puts_41 : decode cX4_puts 41 = .ok (.iastore, 1) := dk_79 (dk_at dksX4_puts_1 18 rfl rfl)
theorem dX4_puts_42 : decode cX4_puts 42 = .ok (.return_, 1) := dk_177 (dk_at dksX4_puts_1 19 rfl rfl)
abbrev cX4_wordHere : ByteArray := prog_20_method_15_code
def yX4_wordHere : MethodName := ⟨RX4, "wordHere", "()I"⟩
def dkwX4_wordHere_6 : List UInt8 := [20, 0, 154, 182, 0, 111, 153, 0, 8, 16, 11, 167, 0, 4, 2, 172]
abbrev dktX4_wordHere_6 : List UInt8 := dkwX4_wordHere_6 ++ []
def dkwX4_wordHere_5 : List UInt8 := [153, 0, 6, 16, 9, 172, 42, 20, 0, 152, 182, 0, 111, 153, 0, 8, 16, 10, 167, 0, 19, 42]
abbrev dktX4_wordHere_5 : List UInt8 := dkwX4_wordHere_5 ++ dktX4_wordHere_6
def dkwX4_wordHere_4 : List UInt8 := [16, 7, 172, 42, 20, 0, 148, 182, 0, 111, 153, 0, 6, 16, 8, 172, 42, 20, 0, 150, 182, 0, 111]
abbrev dktX4_wordHere_4 : List UInt8 := dkwX4_wordHere_4 ++ dktX4_wordHere_5
def dkwX4_wordHere_3 : List UInt8 := [42, 20, 0, 144, 182, 0, 111, 153, 0, 6, 16, 6, 172, 42, 20, 0, 146, 182, 0, 111, 153, 0, 6]
abbrev dktX4_wordHere_3 : List UInt8 := dkwX4_wordHere_3 ++ dktX4_wordHere_4
def dkwX4_wordHere_2 : List UInt8 := [42, 20, 0, 140, 182, 0, 111, 153, 0, 5, 7, 172, 42, 20, 0, 142, 182, 0, 111, 153, 0, 5, 8, 172]
abbrev dktX4_wordHere_2 : List UInt8 := dkwX4_wordHere_2 ++ dktX4_wordHere_3
def dkwX4_wordHere_1 : List UInt8 := [42, 20, 0, 136, 182, 0, 111, 153, 0, 5, 5, 172, 42, 20, 0, 138, 182, 0, 111, 153, 0, 5, 6, 172]
abbrev dktX4_wordHere_1 : List UInt8 := dkwX4_wordHere_1 ++ dktX4_wordHere_2
def dkwX4_wordHere_0 : List UInt8 := [42, 20, 0, 132, 182, 0, 111, 153, 0, 5, 3, 172, 42, 20, 0, 134, 182, 0, 111, 153, 0, 5, 4, 172]
abbrev dktX4_wordHere_0 : List UInt8 := dkwX4_wordHere_0 ++ dktX4_wordHere_1
theorem dksX4_wordHere_0 : cX4_wordHere.data.toList.drop 0 = dktX4_wordHere_0 := by decide +kernel
theorem dksX4_wordHere_1 : cX4_wordHere.data.toList.drop 24 = dktX4_wordHere_1 := dk_seg dksX4_wordHere_0 24 rfl rfl
theorem dksX4_wordHere_2 : cX4_wordHere.data.toList.drop 48 = dktX4_wordHere_2 := dk_seg dksX4_wordHere_1 24 rfl rfl
theorem dksX4_wordHere_3 : cX4_wordHere.data.toList.drop 72 = dktX4_wordHere_3 := dk_seg dksX4_wordHere_2 24 rfl rfl
theorem dksX4_wordHere_4 : cX4_wordHere.data.toList.drop 95 = dktX4_wordHere_4 := dk_seg dksX4_wordHere_3 23 rfl rfl
theorem dksX4_wordHere_5 : cX4_wordHere.data.toList.drop 118 = dktX4_wordHere_5 := dk_seg dksX4_wordHere_4 23 rfl rfl
theorem dksX4_wordHere_6 : cX4_wordHere.data.toList.drop 140 = dktX4_wordHere_6 := dk_seg dksX4_wordHere_5 22 rfl rfl
theorem dX4_wordHere_0 : decode cX4_wordHere 0 = .ok (.aload_n 0, 1) := dk_42 (dk_at dksX4_wordHere_0 0 rfl rfl)
theorem dX4_wordHere_1 : decode cX4_wordHere 1 = .ok (.ldc2_w 132, 3) := dk_20 0 132 (dk_at dksX4_wordHere_0 1 rfl rfl)
theorem dX4_wordHere_4 : decode cX4_wordHere 4 = .ok (.invokevirtual 111, 3) := dk_182 0 111 (dk_at dksX4_wordHere_0 4 rfl rfl)
theorem dX4_wordHere_7 : decode cX4_wordHere 7 = .ok (.ifCond .eq 5, 3) := dk_153 0 5 (dk_at dksX4_wordHere_0 7 rfl rfl)
theorem dX4_wordHere_10 : decode cX4_wordHere 10 = .ok (.iconst 0, 1) := dk_3 (dk_at dksX4_wordHere_0 10 rfl rfl)
theorem dX4_wordHere_11 : decode cX4_wordHere 11 = .ok (.ireturn, 1) := dk_172 (dk_at dksX4_wordHere_0 11 rfl rfl)
theorem dX4_wordHere_12 : decode cX4_wordHere 12 = .ok (.aload_n 0, 1) := dk_42 (dk_at dksX4_wordHere_0 12 rfl rfl)
theorem dX4_wordHere_13 : decode cX4_wordHere 13 = .ok (.ldc2_w 134, 3) := dk_20 0 134 (dk_at dksX4_wordHere_0 13 rfl rfl)
theorem dX4_wordHere_16 : decode cX4_wordHere 16 = .ok (.invokevirtual 111, 3) := dk_182 0 111 (dk_at dksX4_wordHere_0 16 rfl rfl)
theorem dX4_wordHere_19 : decode cX4_wordHere 19 = .ok (.ifCond .eq 5, 3) := dk_153 0 5 (dk_at dksX4_wordHere_0 19 rfl rfl)
theorem dX4_wordHere_22 : decode cX4_wordHere 22 = .ok (.iconst 1, 1) := dk_4 (dk_at dksX4_wordHere_0 22 rfl rfl)
theorem dX4_wordHere_23 : decode cX4_wordHere 23 = .ok (.ireturn, 1) := dk_172 (dk_at dksX4_wordHere_0 23 rfl rfl)
theorem dX4_wordHere_24 : decode cX4_wordHere 24 = .ok (.aload_n 0, 1) := dk_42 (dk_at dksX4_wordHere_1 0 rfl rfl)
theorem dX4_wordHere_25 : decode cX4_wordHere 25 = .ok (.ldc2_w 136, 3) := dk_20 0 136 (dk_at dksX4_wordHere_1 1 rfl rfl)
theorem dX4_wordHere_28 : decode cX4_wordHere 28 = .ok (.invokevirtual 111, 3) := dk_182 0 111 (dk_at dksX4_wordHere_1 4 rfl rfl)
theorem dX4_wordHere_31 : decode cX4_wordHere 31 = .ok (.ifCond .eq 5, 3) := dk_153 0 5 (dk_at dksX4_wordHere_1 7 rfl rfl)
theorem dX4_wordHere_34 : decode cX4_wordHere 34 = .ok (.iconst 2, 1) := dk_5 (dk_at dksX4_wordHere_1 10 rfl rfl)
theorem dX4_wordHere_35 : decode cX4_wordHere 35 = .ok (.ireturn, 1) := dk_172 (dk_at dksX4_wordHere_1 11 rfl rfl)
theorem dX4_wordHere_36 : decode cX4_wordHere 36 = .ok (.aload_n 0, 1) := dk_42 (dk_at dksX4_wordHere_1 12 rfl rfl)
theorem dX4_wordHere_37 : decode cX4_wordHere 37 = .ok (.ldc2_w 138, 3) := dk_20 0 138 (dk_at dksX4_wordHere_1 13 rfl rfl)
theorem dX4_wordHere_40 : decode cX4_wordHere 40 = .ok (.invokevirtual 111, 3) := dk_182 0 111 (dk_at dksX4_wordHere_1 16 rfl rfl)
theorem dX4_wordHere_43 : decode cX4_wordHere 43 = .ok (.ifCond .eq 5, 3) := dk_153 0 5 (dk_at dksX4_wordHere_1 19 rfl rfl)
theorem dX4_wordHere_46 : decode cX4_wordHere 46 = .ok (.iconst 3, 1) := dk_6 (dk_at dksX4_wordHere_1 22 rfl rfl)
theorem dX4_wordHere_47 : decode cX4_wordHere 47 = .ok (.ireturn, 1) := dk_172 (dk_at dksX4_wordHere_1 23 rfl rfl)
theorem dX4_wordHere_48 : decode cX4_wordHere 48 = .ok (.aload_n 0, 1) := dk_42 (dk_at dksX4_wordHere_2 0 rfl rfl)
theorem dX4_wordHere_49 : decode cX4_wordHere 49 = .ok (.ldc2_w 140, 3) := dk_20 0 140 (dk_at dksX4_wordHere_2 1 rfl rfl)
theorem dX4_wordHere_52 : decode cX4_wordHere 52 = .ok (.invokevirtual 111, 3) := dk_182 0 111 (dk_at dksX4_wordHere_2 4 rfl rfl)
theorem dX4_wordHere_55 : decode cX4_wordHere 55 = .ok (.ifCond .eq 5, 3) := dk_153 0 5 (dk_at dksX4_wordHere_2 7 rfl rfl)
theorem dX4_wordHere_58 : decode cX4_wordHere 58 = .ok (.iconst 4, 1) := dk_7 (dk_at dksX4_wordHere_2 10 rfl rfl)
theorem dX4_wordHere_59 : decode cX4_wordHere 59 = .ok (.ireturn, 1) := dk_172 (dk_at dksX4_wordHere_2 11 rfl rfl)
theorem dX4_wordHere_60 : decode cX4_wordHere 60 = .ok (.aload_n 0, 1) := dk_42 (dk_at dksX4_wordHere_2 12 rfl rfl)
theorem dX4_wordHere_61 : decode cX4_wordHere 61 = .ok (.ldc2_w 142, 3) := dk_20 0 142 (dk_at dksX4_wordHere_2 13 rfl rfl)
theorem dX4_wordHere_64 : decode cX4_wordHere 64 = .ok (.invokevirtual 111, 3) := dk_182 0 111 (dk_at dksX4_wordHere_2 16 rfl rfl)
theorem dX4_wordHere_67 : decode cX4_wordHere 67 = .ok (.ifCond .eq 5, 3) := dk_153 0 5 (dk_at dksX4_wordHere_2 19 rfl rfl)
theorem dX4_wordHere_70 : decode cX4_wordHere 70 = .ok (.iconst 5, 1) := dk_8 (dk_at dksX4_wordHere_2 22 rfl rfl)
theorem dX4_wordHere_71 : decode cX4_wordHere 71 = .ok (.ireturn, 1) := dk_172 (dk_at dksX4_wordHere_2 23 rfl rfl)
theorem dX4_wordHere_72 : decode cX4_wordHere 72 = .ok (.aload_n 0, 1) := dk_42 (dk_at dksX4_wordHere_3 0 rfl rfl)
theorem dX4_wordHere_73 : decode cX4_wordHere 73 = .ok (.ldc2_w 144, 3) := dk_20 0 144 (dk_at dksX4_wordHere_3 1 rfl rfl)
theorem dX4_wordHere_76 : decode cX4_wordHere 76 = .ok (.invokevirtual 111, 3) := dk_182 0 111 (dk_at dksX4_wordHere_3 4 rfl rfl)
theorem dX4_wordHere_79 : decode cX4_wordHere 79 = .ok (.ifCond .eq 6, 3) := dk_153 0 6 (dk_at dksX4_wordHere_3 7 rfl rfl)
theorem dX4_wordHere_82 : decode cX4_wordHere 82 = .ok (.bipush 6, 2) := dk_16 6 (dk_at dksX4_wordHere_3 10 rfl rfl)
theorem dX4_wordHere_84 : decode cX4_wordHere 84 = .ok (.ireturn, 1) := dk_172 (dk_at dksX4_wordHere_3 12 rfl rfl)
theorem dX4_wordHere_85 : decode cX4_wordHere 85 = .ok (.aload_n 0, 1) := dk_42 (dk_at dksX4_wordHere_3 13 rfl rfl)
theorem dX4_wordHere_86 : decode cX4_wordHere 86 = .ok (.ldc2_w 146, 3) := dk_20 0 146 (dk_at dksX4_wordHere_3 14 rfl rfl)
theorem dX4_wordHere_89 : decode cX4_wordHere 89 = .ok (.invokevirtual 111, 3) := dk_182 0 111 (dk_at dksX4_wordHere_3 17 rfl rfl)
theorem dX4_wordHere_92 : decode cX4_wordHere 92 = .ok (.ifCond .eq 6, 3) := dk_153 0 6 (dk_at dksX4_wordHere_3 20 rfl rfl)
theorem dX4_wordHere_95 : decode cX4_wordHere 95 = .ok (.bipush 7, 2) := dk_16 7 (dk_at dksX4_wordHere_4 0 rfl rfl)
theorem dX4_wordHere_97 : decode cX4_wordHere 97 = .ok (.ireturn, 1) := dk_172 (dk_at dksX4_wordHere_4 2 rfl rfl)
theorem dX4_wordHere_98 : decode cX4_wordHere 98 = .ok (.aload_n 0, 1) := dk_42 (dk_at dksX4_wordHere_4 3 rfl rfl)
theorem dX4_wordHere_99 : decode cX4_wordHere 99 = .ok (.ldc2_w 148, 3) := dk_20 0 148 (dk_at dksX4_wordHere_4 4 rfl rfl)
theorem dX4_wordHere_102 : decode cX4_wordHere 102 = .ok (.invokevirtual 111, 3) := dk_182 0 111 (dk_at dksX4_wordHere_4 7 rfl rfl)
theorem dX4_wordHere_105 : decode cX4_wordHere 105 = .ok (.ifCond .eq 6, 3) := dk_153 0 6 (dk_at dksX4_wordHere_4 10 rfl rfl)
theorem dX4_wordHere_108 : decode cX4_wordHere 108 = .ok (.bipush 8, 2) := dk_16 8 (dk_at dksX4_wordHere_4 13 rfl rfl)
theorem dX4_wordHere_110 : decode cX4_wordHere 110 = .ok (.ireturn, 1) := dk_172 (dk_at dksX4_wordHere_4 15 rfl rfl)
theorem dX4_wordHere_111 : decode cX4_wordHere 111 = .ok (.aload_n 0, 1) := dk_42 (dk_at dksX4_wordHere_4 16 rfl rfl)
theorem dX4_wordHere_112 : decode cX4_wordHere 112 = .ok (.ldc2_w 150, 3) := dk_20 0 150 (dk_at dksX4_wordHere_4 17 rfl rfl)
theorem dX4_wordHere_115 : decode cX4_wordHere 115 = .ok (.invokevirtual 111, 3) := dk_182 0 111 (dk_at dksX4_wordHere_4 20 rfl rfl)
theorem dX4_wordHere_118 : decode cX4_wordHere 118 = .ok (.ifCond .eq 6, 3) := dk_153 0 6 (dk_at dksX4_wordHere_5 0 rfl rfl)
theorem dX4_wordHere_121 : decode cX4_wordHere 121 = .ok (.bipush 9, 2) := dk_16 9 (dk_at dksX4_wordHere_5 3 rfl rfl)
theorem dX4_wordHere_123 : decode cX4_wordHere 123 = .ok (.ireturn, 1) := dk_172 (dk_at dksX4_wordHere_5 5 rfl rfl)
theorem dX4_wordHere_124 : decode cX4_wordHere 124 = .ok (.aload_n 0, 1) := dk_42 (dk_at dksX4_wordHere_5 6 rfl rfl)
theorem dX4_wordHere_125 : decode cX4_wordHere 125 = .ok (.ldc2_w 152, 3) := dk_20 0 152 (dk_at dksX4_wordHere_5 7 rfl rfl)
theorem dX4_wordHere_128 : decode cX4_wordHere 128 = .ok (.invokevirtual 111, 3) := dk_182 0 111 (dk_at dksX4_wordHere_5 10 rfl rfl)
theorem dX4_wordHere_131 : decode cX4_wordHere 131 = .ok (.ifCond .eq 8, 3) := dk_153 0 8 (dk_at dksX4_wordHere_5 13 rfl rfl)
theorem dX4_wordHere_134 : decode cX4_wordHere 134 = .ok (.bipush 10, 2) := dk_16 10 (dk_at dksX4_wordHere_5 16 rfl rfl)
theorem dX4_wordHere_136 : decode cX4_wordHere 136 = .ok (.goto 19, 3) := dk_167 0 19 (dk_at dksX4_wordHere_5 18 rfl rfl)
theorem dX4_wordHere_139 : decode cX4_wordHere 139 = .ok (.aload_n 0, 1) := dk_42 (dk_at dksX4_wordHere_5 21 rfl rfl)
theorem dX4_wordHere_140 : decode cX4_wordHere 140 = .ok (.ldc2_w 154, 3) := dk_20 0 154 (dk_at dksX4_wordHere_6 0 rfl rfl)
theorem dX4_wordHere_143 : decode cX4_wordHere 143 = .ok (.invokevirtual 111, 3) := dk_182 0 111 (dk_at dksX4_wordHere_6 3 rfl rfl)
theorem dX4_wordHere_146 : decode cX4_wordHere 146 = .ok (.ifCond .eq 8, 3) := dk_153 0 8 (dk_at dksX4_wordHere_6 6 rfl rfl)
theorem dX4_wordHere_149 : decode cX4_wordHere 149 = .ok (.bipush 11, 2) := dk_16 11 (dk_at dksX4_wordHere_6 9 rfl rfl)
theorem dX4_wordHere_151 : decode cX4_wordHere 151 = .ok (.goto 4, 3) := dk_167 0 4 (dk_at dksX4_wordHere_6 11 rfl rfl)
theorem dX4_wordHere_154 : decode cX4_wordHere 154 = .ok (.iconst (-1), 1) := dk_2 (dk_at dksX4_wordHere_6 14 rfl rfl)
theorem dX4_wordHere_155 : decode cX4_wordHere 155 = .ok (.ireturn, 1) := dk_172 (dk_at dksX4_wordHere_6 15 rfl rfl)
abbrev cX4_takesWord : ByteArray := prog_20_method_13_code
def yX4_takesWord : MethodName := ⟨RX4, "takesWord", "(J)Z"⟩
def dkwX4_takesWord_0 : List UInt8 := [42, 31, 182, 0, 111, 154, 0, 5, 3, 172, 42, 182, 0, 115, 4, 172]
abbrev dktX4_takesWord_0 : List UInt8 := dkwX4_takesWord_0 ++ []
theorem dksX4_takesWord_0 : cX4_takesWord.data.toList.drop 0 = dktX4_takesWord_0 := by decide +kernel
theorem dX4_takesWord_0 : decode cX4_takesWord 0 = .ok (.aload_n 0, 1) := dk_42 (dk_at dksX4_takesWord_0 0 rfl rfl)
theorem dX4_takesWord_1 : decode cX4_takesWord 1 = .ok (.lload_n 1, 1) := dk_31 (dk_at dksX4_takesWord_0 1 rfl rfl)
theorem dX4_takesWord_2 : decode cX4_takesWord 2 = .ok (.invokevirtual 111, 3) := dk_182 0 111 (dk_at dksX4_takesWord_0 2 rfl rfl)
theorem dX4_takesWord_5 : decode cX4_takesWord 5 = .ok (.ifCond .ne 5, 3) := dk_154 0 5 (dk_at dksX4_takesWord_0 5 rfl rfl)
theorem dX4_takesWord_8 : decode cX4_takesWord 8 = .ok (.iconst 0, 1) := dk_3 (dk_at dksX4_takesWord_0 8 rfl rfl)
theorem dX4_takesWord_9 : decode cX4_takesWord 9 = .ok (.ireturn, 1) := dk_172 (dk_at dksX4_takesWord_0 9 rfl rfl)
theorem dX4_takesWord_10 : decode cX4_takesWord 10 = .ok (.aload_n 0, 1) := dk_42 (dk_at dksX4_takesWord_0 10 rfl rfl)
theorem dX4_takesWord_11 : decode cX4_takesWord 11 = .ok (.invokevirtual 115, 3) := dk_182 0 115 (dk_at dksX4_takesWord_0 11 rfl rfl)
theorem dX4_takesWord_14 : decode cX4_takesWord 14 = .ok (.iconst 1, 1) := dk_4 (dk_at dksX4_takesWord_0 14 rfl rfl)
theorem dX4_takesWord_15 : decode cX4_takesWord 15 = .ok (.ireturn, 1) := dk_172 (dk_at dksX4_takesWord_0 15 rfl rfl)
abbrev cX4_tested : ByteArray := prog_20_method_28_code
def yX4_tested : MethodName := ⟨RX4, "tested", "()Z"⟩
def dkwX4_tested_6 : List UInt8 := [172]
abbrev dktX4_tested_6 : List UInt8 := dkwX4_tested_6 ++ []
def dkwX4_tested_5 : List UInt8 := [153, 0, 18, 42, 182, 0, 103, 87, 42, 3, 42, 180, 0, 100, 182, 0, 121, 172, 42, 4, 182, 0, 204, 4]
abbrev dktX4_tested_5 : List UInt8 := dkwX4_tested_5 ++ dktX4_tested_6
def dkwX4_tested_4 : List UInt8 := [42, 180, 0, 165, 28, 79, 42, 89, 180, 0, 165, 4, 96, 181, 0, 165, 167, 255, 159, 42, 182, 0, 207]
abbrev dktX4_tested_4 : List UInt8 := dkwX4_tested_4 ++ dktX4_tested_5
def dkwX4_tested_3 : List UInt8 := [16, 12, 167, 0, 5, 16, 13, 61, 42, 182, 0, 115, 42, 28, 184, 0, 168, 182, 0, 204, 42, 180, 0, 29]
abbrev dktX4_tested_3 : List UInt8 := dkwX4_tested_3 ++ dktX4_tested_4
def dkwX4_tested_2 : List UInt8 := [153, 0, 7, 4, 167, 0, 4, 3, 60, 27, 153, 255, 212, 42, 20, 0, 216, 182, 0, 111, 153, 0, 8]
abbrev dktX4_tested_2 : List UInt8 := dkwX4_tested_2 ++ dktX4_tested_3
def dkwX4_tested_1 : List UInt8 := [172, 42, 182, 0, 213, 42, 20, 0, 216, 182, 0, 111, 154, 0, 13, 42, 20, 0, 218, 182, 0, 111]
abbrev dktX4_tested_1 : List UInt8 := dkwX4_tested_1 ++ dktX4_tested_2
def dkwX4_tested_0 : List UInt8 := [42, 3, 181, 0, 165, 42, 3, 181, 0, 162, 4, 60, 27, 153, 0, 99, 42, 182, 0, 210, 154, 0, 5, 3]
abbrev dktX4_tested_0 : List UInt8 := dkwX4_tested_0 ++ dktX4_tested_1
theorem dksX4_tested_0 : cX4_tested.data.toList.drop 0 = dktX4_tested_0 := by decide +kernel
theorem dksX4_tested_1 : cX4_tested.data.toList.drop 24 = dktX4_tested_1 := dk_seg dksX4_tested_0 24 rfl rfl
theorem dksX4_tested_2 : cX4_tested.data.toList.drop 46 = dktX4_tested_2 := dk_seg dksX4_tested_1 22 rfl rfl
theorem dksX4_tested_3 : cX4_tested.data.toList.drop 69 = dktX4_tested_3 := dk_seg dksX4_tested_2 23 rfl rfl
theorem dksX4_tested_4 : cX4_tested.data.toList.drop 93 = dktX4_tested_4 := dk_seg dksX4_tested_3 24 rfl rfl
theorem dksX4_tested_5 : cX4_tested.data.toList.drop 116 = dktX4_tested_5 := dk_seg dksX4_tested_4 23 rfl rfl
theorem dksX4_tested_6 : cX4_tested.data.toList.drop 140 = dktX4_tested_6 := dk_seg dksX4_tested_5 24 rfl rfl
theorem dX4_tested_0 : decode cX4_tested 0 = .ok (.aload_n 0, 1) := dk_42 (dk_at dksX4_tested_0 0 rfl rfl)
theorem dX4_tested_1 : decode cX4_tested 1 = .ok (.iconst 0, 1) := dk_3 (dk_at dksX4_tested_0 1 rfl rfl)
theorem dX4_tested_2 : decode cX4_tested 2 = .ok (.putfield 165, 3) := dk_181 0 165 (dk_at dksX4_tested_0 2 rfl rfl)
theorem dX4_tested_5 : decode cX4_tested 5 = .ok (.aload_n 0, 1) := dk_42 (dk_at dksX4_tested_0 5 rfl rfl)
theorem dX4_tested_6 : decode cX4_tested 6 = .ok (.iconst 0, 1) := dk_3 (dk_at dksX4_tested_0 6 rfl rfl)
theorem dX4_tested_7 : decode cX4_tested 7 = .ok (.putfield 162, 3) := dk_181 0 162 (dk_at dksX4_tested_0 7 rfl rfl)
theorem dX4_tested_10 : decode cX4_tested 10 = .ok (.iconst 1, 1) := dk_4 (dk_at dksX4_tested_0 10 rfl rfl)
theorem dX4_tested_11 : decode cX4_tested 11 = .ok (.istore_n 1, 1) := dk_60 (dk_at dksX4_tested_0 11 rfl rfl)
theorem dX4_tested_12 : decode cX4_tested 12 = .ok (.iload_n 1, 1) := dk_27 (dk_at dksX4_tested_0 12 rfl rfl)
theorem dX4_tested_13 : decode cX4_tested 13 = .ok (.ifCond .eq 99, 3) := dk_153 0 99 (dk_at dksX4_tested_0 13 rfl rfl)
theorem dX4_tested_16 : decode cX4_tested 16 = .ok (.aload_n 0, 1) := dk_42 (dk_at dksX4_tested_0 16 rfl rfl)
theorem dX4_tested_17 : decode cX4_tested 17 = .ok (.invokevirtual 210, 3) := dk_182 0 210 (dk_at dksX4_tested_0 17 rfl rfl)
theorem dX4_tested_20 : decode cX4_tested 20 = .ok (.ifCond .ne 5, 3) := dk_154 0 5 (dk_at dksX4_tested_0 20 rfl rfl)
theorem dX4_tested_23 : decode cX4_tested 23 = .ok (.iconst 0, 1) := dk_3 (dk_at dksX4_tested_0 23 rfl rfl)
theorem dX4_tested_24 : decode cX4_tested 24 = .ok (.ireturn, 1) := dk_172 (dk_at dksX4_tested_1 0 rfl rfl)
theorem dX4_tested_25 : decode cX4_tested 25 = .ok (.aload_n 0, 1) := dk_42 (dk_at dksX4_tested_1 1 rfl rfl)
theorem dX4_tested_26 : decode cX4_tested 26 = .ok (.invokevirtual 213, 3) := dk_182 0 213 (dk_at dksX4_tested_1 2 rfl rfl)
theorem dX4_tested_29 : decode cX4_tested 29 = .ok (.aload_n 0, 1) := dk_42 (dk_at dksX4_tested_1 5 rfl rfl)
theorem dX4_tested_30 : decode cX4_tested 30 = .ok (.ldc2_w 216, 3) := dk_20 0 216 (dk_at dksX4_tested_1 6 rfl rfl)
theorem dX4_tested_33 : decode cX4_tested 33 = .ok (.invokevirtual 111, 3) := dk_182 0 111 (dk_at dksX4_tested_1 9 rfl rfl)
theorem dX4_tested_36 : decode cX4_tested 36 = .ok (.ifCond .ne 13, 3) := dk_154 0 13 (dk_at dksX4_tested_1 12 rfl rfl)
theorem dX4_tested_39 : decode cX4_tested 39 = .ok (.aload_n 0, 1) := dk_42 (dk_at dksX4_tested_1 15 rfl rfl)
theorem dX4_tested_40 : decode cX4_tested 40 = .ok (.ldc2_w 218, 3) := dk_20 0 218 (dk_at dksX4_tested_1 16 rfl rfl)
theorem dX4_tested_43 : decode cX4_tested 43 = .ok (.invokevirtual 111, 3) := dk_182 0 111 (dk_at dksX4_tested_1 19 rfl rfl)
theorem dX4_tested_46 : decode cX4_tested 46 = .ok (.ifCond .eq 7, 3) := dk_153 0 7 (dk_at dksX4_tested_2 0 rfl rfl)
theorem dX4_tested_49 : decode cX4_tested 49 = .ok (.iconst 1, 1) := dk_4 (dk_at dksX4_tested_2 3 rfl rfl)
theorem dX4_tested_50 : decode cX4_tested 50 = .ok (.goto 4, 3) := dk_167 0 4 (dk_at dksX4_tested_2 4 rfl rfl)
theorem dX4_tested_53 : decode cX4_tested 53 = .ok (.iconst 0, 1) := dk_3 (dk_at dksX4_tested_2 7 rfl rfl)
theorem dX4_tested_54 : decode cX4_tested 54 = .ok (.istore_n 1, 1) := dk_60 (dk_at dksX4_tested_2 8 rfl rfl)
theorem dX4_tested_55 : decode cX4_tested 55 = .ok (.iload_n 1, 1) := dk_27 (dk_at dksX4_tested_2 9 rfl rfl)
theorem dX4_tested_56 : decode cX4_tested 56 = .ok (.ifCond .eq (-44), 3) := dk_153 255 212 (dk_at dksX4_tested_2 10 rfl rfl)
theorem dX4_tested_59 : decode cX4_tested 59 = .ok (.aload_n 0, 1) := dk_42 (dk_at dksX4_tested_2 13 rfl rfl)
theorem dX4_tested_60 : decode cX4_tested 60 = .ok (.ldc2_w 216, 3) := dk_20 0 216 (dk_at dksX4_tested_2 14 rfl rfl)
theorem dX4_tested_63 : decode cX4_tested 63 = .ok (.invokevirtual 111, 3) := dk_182 0 111 (dk_at dksX4_tested_2 17 rfl rfl)
theorem dX4_tested_66 : decode cX4_tested 66 = .ok (.ifCond .eq 8, 3) := dk_153 0 8 (dk_at dksX4_tested_2 20 rfl rfl)
theorem dX4_tested_69 : decode cX4_tested 69 = .ok (.bipush 12, 2) := dk_16 12 (dk_at dksX4_tested_3 0 rfl rfl)
theorem dX4_tested_71 : decode cX4_tested 71 = .ok (.goto 5, 3) := dk_167 0 5 (dk_at dksX4_tested_3 2 rfl rfl)
theorem dX4_tested_74 : decode cX4_tested 74 = .ok (.bipush 13, 2) := dk_16 13 (dk_at dksX4_tested_3 5 rfl rfl)
theorem dX4_tested_76 : decode cX4_tested 76 = .ok (.istore_n 2, 1) := dk_61 (dk_at dksX4_tested_3 7 rfl rfl)
theorem dX4_tested_77 : decode cX4_tested 77 = .ok (.aload_n 0, 1) := dk_42 (dk_at dksX4_tested_3 8 rfl rfl)
theorem dX4_tested_78 : decode cX4_tested 78 = .ok (.invokevirtual 115, 3) := dk_182 0 115 (dk_at dksX4_tested_3 9 rfl rfl)
theorem dX4_tested_81 : decode cX4_tested 81 = .ok (.aload_n 0, 1) := dk_42 (dk_at dksX4_tested_3 12 rfl rfl)
theorem dX4_tested_82 : decode cX4_tested 82 = .ok (.iload_n 2, 1) := dk_28 (dk_at dksX4_tested_3 13 rfl rfl)
theorem dX4_tested_83 : decode cX4_tested 83 = .ok (.invokestatic 168, 3) := dk_184 0 168 (dk_at dksX4_tested_3 14 rfl rfl)
theorem dX4_tested_86 : decode cX4_tested 86 = .ok (.invokevirtual 204, 3) := dk_182 0 204 (dk_at dksX4_tested_3 17 rfl rfl)
theorem dX4_tested_89 : decode cX4_tested 89 = .ok (.aload_n 0, 1) := dk_42 (dk_at dksX4_tested_3 20 rfl rfl)
theorem dX4_tested_90 : decode cX4_tested 90 = .ok (.getfield 29, 3) := dk_180 0 29 (dk_at dksX4_tested_3 21 rfl rfl)
theorem dX4_tested_93 : decode cX4_tested 93 = .ok (.aload_n 0, 1) := dk_42 (dk_at dksX4_tested_4 0 rfl rfl)
theorem dX4_tested_94 : decode cX4_tested 94 = .ok (.getfield 165, 3) := dk_180 0 165 (dk_at dksX4_tested_4 1 rfl rfl)
theorem dX4_tested_97 : decode cX4_tested 97 = .ok (.iload_n 2, 1) := dk_28 (dk_at dksX4_tested_4 4 rfl rfl)
theorem dX4_tested_98 : decode cX4_tested 98 = .ok (.iastore, 1) := dk_79 (dk_at dksX4_tested_4 5 rfl rfl)
theorem dX4_tested_99 : decode cX4_tested 99 = .ok (.aload_n 0, 1) := dk_42 (dk_at dksX4_tested_4 6 rfl rfl)
theorem dX4_tested_100 : decode cX4_tested 100 = .ok (.dup, 1) := dk_89 (dk_at dksX4_tested_4 7 rfl rfl)
theorem dX4_tested_101 : decode cX4_tested 101 = .ok (.getfield 165, 3) := dk_180 0 165 (dk_at dksX4_tested_4 8 rfl rfl)
theorem dX4_tested_104 : decode cX4_tested 104 = .ok (.iconst 1, 1) := dk_4 (dk_at dksX4_tested_4 11 rfl rfl)
theorem dX4_tested_105 : decode cX4_tested 105 = .ok (.iadd, 1) := dk_96 (dk_at dksX4_tested_4 12 rfl rfl)
theorem dX4_tested_106 : decode cX4_tested 106 = .ok (.putfield 165, 3) := dk_181 0 165 (dk_at dksX4_tested_4 13 rfl rfl)
theorem dX4_tested_109 : decode cX4_tested 109 = .ok (.goto (-97), 3) := dk_167 255 159 (dk_at dksX4_tested_4 16 rfl rfl)
theorem dX4_tested_112 : decode cX4_tested 112 = .ok (.aload_n 0, 1) := dk_42 (dk_at dksX4_tested_4 19 rfl rfl)
theorem dX4_tested_113 : decode cX4_tested 113 = .ok (.invokevirtual 207, 3) := dk_182 0 207 (dk_at dksX4_tested_4 20 rfl rfl)
theorem dX4_tested_116 : decode cX4_tested 116 = .ok (.ifCond .eq 18, 3) := dk_153 0 18 (dk_at dksX4_tested_5 0 rfl rfl)
theorem dX4_tested_119 : decode cX4_tested 119 = .ok (.aload_n 0, 1) := dk_42 (dk_at dksX4_tested_5 3 rfl rfl)
theorem dX4_tested_120 : decode cX4_tested 120 = .ok (.invokevirtual 103, 3) := dk_182 0 103 (dk_at dksX4_tested_5 4 rfl rfl)
theorem dX4_tested_123 : decode cX4_tested 123 = .ok (.pop, 1) := dk_87 (dk_at dksX4_tested_5 7 rfl rfl)
theorem dX4_tested_124 : decode cX4_tested 124 = .ok (.aload_n 0, 1) := dk_42 (dk_at dksX4_tested_5 8 rfl rfl)
theorem dX4_tested_125 : decode cX4_tested 125 = .ok (.iconst 0, 1) := dk_3 (dk_at dksX4_tested_5 9 rfl rfl)
theorem dX4_tested_126 : decode cX4_tested 126 = .ok (.aload_n 0, 1) := dk_42 (dk_at dksX4_tested_5 10 rfl rfl)
theorem dX4_tested_127 : decode cX4_tested 127 = .ok (.getfield 100, 3) := dk_180 0 100 (dk_at dksX4_tested_5 11 rfl rfl)
theorem dX4_tested_130 : decode cX4_tested 130 = .ok (.invokevirtual 121, 3) := dk_182 0 121 (dk_at dksX4_tested_5 14 rfl rfl)
theorem dX4_tested_133 : decode cX4_tested 133 = .ok (.ireturn, 1) := dk_172 (dk_at dksX4_tested_5 17 rfl rfl)
theorem dX4_tested_134 : decode cX4_tested 134 = .ok (.aload_n 0, 1) := dk_42 (dk_at dksX4_tested_5 18 rfl rfl)
theorem dX4_tested_135 : decode cX4_tested 135 = .ok (.iconst 1, 1) := dk_4 (dk_at dksX4_tested_5 19 rfl rfl)
theorem dX4_tested_136 : decode cX4_tested 136 = .ok (.invokevirtual 204, 3) := dk_182 0 204 (dk_at dksX4_tested_5 20 rfl rfl)
theorem dX4_tested_139 : decode cX4_tested 139 = .ok (.iconst 1, 1) := dk_4 (dk_at dksX4_tested_5 23 rfl rfl)
theorem dX4_tested_140 : decode cX4_tested 140 = .ok (.ireturn, 1) := dk_172 (dk_at dksX4_tested_6 0 rfl rfl)
abbrev cX4_fact : ByteArray := prog_20_method_25_code
def yX4_fact : MethodName := ⟨RX4, "fact", "()Z"⟩
def dkwX4_fact_3 : List UInt8 := [4, 60, 167, 255, 186, 42, 182, 0, 201, 172]
abbrev dktX4_fact_3 : List UInt8 := dkwX4_fact_3 ++ []
def dkwX4_fact_2 : List UInt8 := [160, 0, 26, 42, 16, 91, 182, 0, 198, 154, 0, 5, 3, 172, 42, 89, 180, 0, 100, 4, 96, 181, 0, 100]
abbrev dktX4_fact_2 : List UInt8 := dkwX4_fact_2 ++ dktX4_fact_3
def dkwX4_fact_1 : List UInt8 := [16, 11, 182, 0, 198, 154, 0, 5, 3, 172, 42, 182, 0, 115, 4, 60, 167, 0, 32, 28, 16, 91]
abbrev dktX4_fact_1 : List UInt8 := dkwX4_fact_1 ++ dktX4_fact_2
def dkwX4_fact_0 : List UInt8 := [4, 60, 27, 153, 0, 72, 3, 60, 42, 182, 0, 103, 61, 42, 20, 0, 196, 182, 0, 111, 153, 0, 23, 42]
abbrev dktX4_fact_0 : List UInt8 := dkwX4_fact_0 ++ dktX4_fact_1
theorem dksX4_fact_0 : cX4_fact.data.toList.drop 0 = dktX4_fact_0 := by decide +kernel
theorem dksX4_fact_1 : cX4_fact.data.toList.drop 24 = dktX4_fact_1 := dk_seg dksX4_fact_0 24 rfl rfl
theorem dksX4_fact_2 : cX4_fact.data.toList.drop 46 = dktX4_fact_2 := dk_seg dksX4_fact_1 22 rfl rfl
theorem dksX4_fact_3 : cX4_fact.data.toList.drop 70 = dktX4_fact_3 := dk_seg dksX4_fact_2 24 rfl rfl
theorem dX4_fact_0 : decode cX4_fact 0 = .ok (.iconst 1, 1) := dk_4 (dk_at dksX4_fact_0 0 rfl rfl)
theorem dX4_fact_1 : decode cX4_fact 1 = .ok (.istore_n 1, 1) := dk_60 (dk_at dksX4_fact_0 1 rfl rfl)
theorem dX4_fact_2 : decode cX4_fact 2 = .ok (.iload_n 1, 1) := dk_27 (dk_at dksX4_fact_0 2 rfl rfl)
theorem dX4_fact_3 : decode cX4_fact 3 = .ok (.ifCond .eq 72, 3) := dk_153 0 72 (dk_at dksX4_fact_0 3 rfl rfl)
theorem dX4_fact_6 : decode cX4_fact 6 = .ok (.iconst 0, 1) := dk_3 (dk_at dksX4_fact_0 6 rfl rfl)
theorem dX4_fact_7 : decode cX4_fact 7 = .ok (.istore_n 1, 1) := dk_60 (dk_at dksX4_fact_0 7 rfl rfl)
theorem dX4_fact_8 : decode cX4_fact 8 = .ok (.aload_n 0, 1) := dk_42 (dk_at dksX4_fact_0 8 rfl rfl)
theorem dX4_fact_9 : decode cX4_fact 9 = .ok (.invokevirtual 103, 3) := dk_182 0 103 (dk_at dksX4_fact_0 9 rfl rfl)
theorem dX4_fact_12 : decode cX4_fact 12 = .ok (.istore_n 2, 1) := dk_61 (dk_at dksX4_fact_0 12 rfl rfl)
theorem dX4_fact_13 : decode cX4_fact 13 = .ok (.aload_n 0, 1) := dk_42 (dk_at dksX4_fact_0 13 rfl rfl)
theorem dX4_fact_14 : decode cX4_fact 14 = .ok (.ldc2_w 196, 3) := dk_20 0 196 (dk_at dksX4_fact_0 14 rfl rfl)
theorem dX4_fact_17 : decode cX4_fact 17 = .ok (.invokevirtual 111, 3) := dk_182 0 111 (dk_at dksX4_fact_0 17 rfl rfl)
theorem dX4_fact_20 : decode cX4_fact 20 = .ok (.ifCond .eq 23, 3) := dk_153 0 23 (dk_at dksX4_fact_0 20 rfl rfl)
theorem dX4_fact_23 : decode cX4_fact 23 = .ok (.aload_n 0, 1) := dk_42 (dk_at dksX4_fact_0 23 rfl rfl)
theorem dX4_fact_24 : decode cX4_fact 24 = .ok (.bipush 11, 2) := dk_16 11 (dk_at dksX4_fact_1 0 rfl rfl)
theorem dX4_fact_26 : decode cX4_fact 26 = .ok (.invokevirtual 198, 3) := dk_182 0 198 (dk_at dksX4_fact_1 2 rfl rfl)
theorem dX4_fact_29 : decode cX4_fact 29 = .ok (.ifCond .ne 5, 3) := dk_154 0 5 (dk_at dksX4_fact_1 5 rfl rfl)
theorem dX4_fact_32 : decode cX4_fact 32 = .ok (.iconst 0, 1) := dk_3 (dk_at dksX4_fact_1 8 rfl rfl)
theorem dX4_fact_33 : decode cX4_fact 33 = .ok (.ireturn, 1) := dk_172 (dk_at dksX4_fact_1 9 rfl rfl)
theorem dX4_fact_34 : decode cX4_fact 34 = .ok (.aload_n 0, 1) := dk_42 (dk_at dksX4_fact_1 10 rfl rfl)
theorem dX4_fact_35 : decode cX4_fact 35 = .ok (.invokevirtual 115, 3) := dk_182 0 115 (dk_at dksX4_fact_1 11 rfl rfl)
theorem dX4_fact_38 : decode cX4_fact 38 = .ok (.iconst 1, 1) := dk_4 (dk_at dksX4_fact_1 14 rfl rfl)
theorem dX4_fact_39 : decode cX4_fact 39 = .ok (.istore_n 1, 1) := dk_60 (dk_at dksX4_fact_1 15 rfl rfl)
theorem dX4_fact_40 : decode cX4_fact 40 = .ok (.goto 32, 3) := dk_167 0 32 (dk_at dksX4_fact_1 16 rfl rfl)
theorem dX4_fact_43 : decode cX4_fact 43 = .ok (.iload_n 2, 1) := dk_28 (dk_at dksX4_fact_1 19 rfl rfl)
theorem dX4_fact_44 : decode cX4_fact 44 = .ok (.bipush 91, 2) := dk_16 91 (dk_at dksX4_fact_1 20 rfl rfl)
theorem dX4_fact_46 : decode cX4_fact 46 = .ok (.if_icmp .ne 26, 3) := dk_160 0 26 (dk_at dksX4_fact_2 0 rfl rfl)
theorem dX4_fact_49 : decode cX4_fact 49 = .ok (.aload_n 0, 1) := dk_42 (dk_at dksX4_fact_2 3 rfl rfl)
theorem dX4_fact_50 : decode cX4_fact 50 = .ok (.bipush 91, 2) := dk_16 91 (dk_at dksX4_fact_2 4 rfl rfl)
theorem dX4_fact_52 : decode cX4_fact 52 = .ok (.invokevirtual 198, 3) := dk_182 0 198 (dk_at dksX4_fact_2 6 rfl rfl)
theorem dX4_fact_55 : decode cX4_fact 55 = .ok (.ifCond .ne 5, 3) := dk_154 0 5 (dk_at dksX4_fact_2 9 rfl rfl)
theorem dX4_fact_58 : decode cX4_fact 58 = .ok (.iconst 0, 1) := dk_3 (dk_at dksX4_fact_2 12 rfl rfl)
theorem dX4_fact_59 : decode cX4_fact 59 = .ok (.ireturn, 1) := dk_172 (dk_at dksX4_fact_2 13 rfl rfl)
theorem dX4_fact_60 : decode cX4_fact 60 = .ok (.aload_n 0, 1) := dk_42 (dk_at dksX4_fact_2 14 rfl rfl)
theorem dX4_fact_61 : decode cX4_fact 61 = .ok (.dup, 1) := dk_89 (dk_at dksX4_fact_2 15 rfl rfl)
theorem dX4_fact_62 : decode cX4_fact 62 = .ok (.getfield 100, 3) := dk_180 0 100 (dk_at dksX4_fact_2 16 rfl rfl)
theorem dX4_fact_65 : decode cX4_fact 65 = .ok (.iconst 1, 1) := dk_4 (dk_at dksX4_fact_2 19 rfl rfl)
theorem dX4_fact_66 : decode cX4_fact 66 = .ok (.iadd, 1) := dk_96 (dk_at dksX4_fact_2 20 rfl rfl)
theorem dX4_fact_67 : decode cX4_fact 67 = .ok (.putfield 100, 3) := dk_181 0 100 (dk_at dksX4_fact_2 21 rfl rfl)
theorem dX4_fact_70 : decode cX4_fact 70 = .ok (.iconst 1, 1) := dk_4 (dk_at dksX4_fact_3 0 rfl rfl)
theorem dX4_fact_71 : decode cX4_fact 71 = .ok (.istore_n 1, 1) := dk_60 (dk_at dksX4_fact_3 1 rfl rfl)
theorem dX4_fact_72 : decode cX4_fact 72 = .ok (.goto (-70), 3) := dk_167 255 186 (dk_at dksX4_fact_3 2 rfl rfl)
theorem dX4_fact_75 : decode cX4_fact 75 = .ok (.aload_n 0, 1) := dk_42 (dk_at dksX4_fact_3 5 rfl rfl)
theorem dX4_fact_76 : decode cX4_fact 76 = .ok (.invokevirtual 201, 3) := dk_182 0 201 (dk_at dksX4_fact_3 6 rfl rfl)
theorem dX4_fact_79 : decode cX4_fact 79 = .ok (.ireturn, 1) := dk_172 (dk_at dksX4_fact_3 9 rfl rfl)
abbrev cX4_opens : ByteArray := prog_20_method_18_code
def yX4_opens : MethodName := ⟨RX4, "opens", "(I)Z"⟩
def dkwX4_opens_2 : List UInt8 := [181, 0, 165, 4, 172]
abbrev dktX4_opens_2 : List UInt8 := dkwX4_opens_2 ++ []
def dkwX4_opens_1 : List UInt8 := [4, 96, 181, 0, 162, 42, 180, 0, 29, 42, 180, 0, 165, 27, 79, 42, 89, 180, 0, 165, 4, 96]
abbrev dktX4_opens_1 : List UInt8 := dkwX4_opens_1 ++ dktX4_opens_2
def dkwX4_opens_0 : List UInt8 := [42, 180, 0, 162, 16, 10, 160, 0, 13, 42, 5, 42, 180, 0, 100, 182, 0, 121, 172, 42, 89, 180, 0, 162]
abbrev dktX4_opens_0 : List UInt8 := dkwX4_opens_0 ++ dktX4_opens_1
theorem dksX4_opens_0 : cX4_opens.data.toList.drop 0 = dktX4_opens_0 := by decide +kernel
theorem dksX4_opens_1 : cX4_opens.data.toList.drop 24 = dktX4_opens_1 := dk_seg dksX4_opens_0 24 rfl rfl
theorem dksX4_opens_2 : cX4_opens.data.toList.drop 46 = dktX4_opens_2 := dk_seg dksX4_opens_1 22 rfl rfl
theorem dX4_opens_0 : decode cX4_opens 0 = .ok (.aload_n 0, 1) := dk_42 (dk_at dksX4_opens_0 0 rfl rfl)
theorem dX4_opens_1 : decode cX4_opens 1 = .ok (.getfield 162, 3) := dk_180 0 162 (dk_at dksX4_opens_0 1 rfl rfl)
theorem dX4_opens_4 : decode cX4_opens 4 = .ok (.bipush 10, 2) := dk_16 10 (dk_at dksX4_opens_0 4 rfl rfl)
theorem dX4_opens_6 : decode cX4_opens 6 = .ok (.if_icmp .ne 13, 3) := dk_160 0 13 (dk_at dksX4_opens_0 6 rfl rfl)
theorem dX4_opens_9 : decode cX4_opens 9 = .ok (.aload_n 0, 1) := dk_42 (dk_at dksX4_opens_0 9 rfl rfl)
theorem dX4_opens_10 : decode cX4_opens 10 = .ok (.iconst 2, 1) := dk_5 (dk_at dksX4_opens_0 10 rfl rfl)
theorem dX4_opens_11 : decode cX4_opens 11 = .ok (.aload_n 0, 1) := dk_42 (dk_at dksX4_opens_0 11 rfl rfl)
theorem dX4_opens_12 : decode cX4_opens 12 = .ok (.getfield 100, 3) := dk_180 0 100 (dk_at dksX4_opens_0 12 rfl rfl)
theorem dX4_opens_15 : decode cX4_opens 15 = .ok (.invokevirtual 121, 3) := dk_182 0 121 (dk_at dksX4_opens_0 15 rfl rfl)
theorem dX4_opens_18 : decode cX4_opens 18 = .ok (.ireturn, 1) := dk_172 (dk_at dksX4_opens_0 18 rfl rfl)
theorem dX4_opens_19 : decode cX4_opens 19 = .ok (.aload_n 0, 1) := dk_42 (dk_at dksX4_opens_0 19 rfl rfl)
theorem dX4_opens_20 : decode cX4_opens 20 = .ok (.dup, 1) := dk_89 (dk_at dksX4_opens_0 20 rfl rfl)
theorem dX4_opens_21 : decode cX4_opens 21 = .ok (.getfield 162, 3) := dk_180 0 162 (dk_at dksX4_opens_0 21 rfl rfl)
theorem dX4_opens_24 : decode cX4_opens 24 = .ok (.iconst 1, 1) := dk_4 (dk_at dksX4_opens_1 0 rfl rfl)
theorem dX4_opens_25 : decode cX4_opens 25 = .ok (.iadd, 1) := dk_96 (dk_at dksX4_opens_1 1 rfl rfl)
theorem dX4_opens_26 : decode cX4_opens 26 = .ok (.putfield 162, 3) := dk_181 0 162 (dk_at dksX4_opens_1 2 rfl rfl)
theorem dX4_opens_29 : decode cX4_opens 29 = .ok (.aload_n 0, 1) := dk_42 (dk_at dksX4_opens_1 5 rfl rfl)
theorem dX4_opens_30 : decode cX4_opens 30 = .ok (.getfield 29, 3) := dk_180 0 29 (dk_at dksX4_opens_1 6 rfl rfl)
theorem dX4_opens_33 : decode cX4_opens 33 = .ok (.aload_n 0, 1) := dk_42 (dk_at dksX4_opens_1 9 rfl rfl)
theorem dX4_opens_34 : decode cX4_opens 34 = .ok (.getfield 165, 3) := dk_180 0 165 (dk_at dksX4_opens_1 10 rfl rfl)
theorem dX4_opens_37 : decode cX4_opens 37 = .ok (.iload_n 1, 1) := dk_27 (dk_at dksX4_opens_1 13 rfl rfl)
theorem dX4_opens_38 : decode cX4_opens 38 = .ok (.iastore, 1) := dk_79 (dk_at dksX4_opens_1 14 rfl rfl)
theorem dX4_opens_39 : decode cX4_opens 39 = .ok (.aload_n 0, 1) := dk_42 (dk_at dksX4_opens_1 15 rfl rfl)
theorem dX4_opens_40 : decode cX4_opens 40 = .ok (.dup, 1) := dk_89 (dk_at dksX4_opens_1 16 rfl rfl)
theorem dX4_opens_41 : decode cX4_opens 41 = .ok (.getfield 165, 3) := dk_180 0 165 (dk_at dksX4_opens_1 17 rfl rfl)
theorem dX4_opens_44 : decode cX4_opens 44 = .ok (.iconst 1, 1) := dk_4 (dk_at dksX4_opens_1 20 rfl rfl)
theorem dX4_opens_45 : decode cX4_opens 45 = .ok (.iadd, 1) := dk_96 (dk_at dksX4_opens_1 21 rfl rfl)
theorem dX4_opens_46 : decode cX4_opens 46 = .ok (.putfield 165, 3) := dk_181 0 165 (dk_at dksX4_opens_2 0 rfl rfl)
theorem dX4_opens_49 : decode cX4_opens 49 = .ok (.iconst 1, 1) := dk_4 (dk_at dksX4_opens_2 3 rfl rfl)
theorem dX4_opens_50 : decode cX4_opens 50 = .ok (.ireturn, 1) := dk_172 (dk_at dksX4_opens_2 4 rfl rfl)
abbrev cX4_compare : ByteArray := prog_20_method_24_code
def yX4_compare : MethodName := ⟨RX4, "compare", "()Z"⟩
def dkwX4_compare_7 : List UInt8 := [16, 6, 21, 4, 96, 3, 182, 0, 172, 4, 172]
abbrev dktX4_compare_7 : List UInt8 := dkwX4_compare_7 ++ []
def dkwX4_compare_6 : List UInt8 := [167, 0, 12, 29, 153, 0, 7, 6, 167, 0, 4, 7, 54, 4, 42, 182, 0, 193, 154, 0, 5, 3, 172, 42]
abbrev dktX4_compare_6 : List UInt8 := dkwX4_compare_6 ++ dktX4_compare_7
def dkwX4_compare_5 : List UInt8 := [16, 60, 160, 0, 15, 29, 153, 0, 7, 4, 167, 0, 26, 3, 167, 0, 22, 27, 16, 61, 160, 0, 7, 5]
abbrev dktX4_compare_5 : List UInt8 := dkwX4_compare_5 ++ dktX4_compare_6
def dkwX4_compare_4 : List UInt8 := [153, 0, 13, 42, 89, 180, 0, 100, 4, 96, 181, 0, 100, 42, 28, 182, 0, 180, 154, 0, 5, 3, 172, 27]
abbrev dktX4_compare_4 : List UInt8 := dkwX4_compare_4 ++ dktX4_compare_5
def dkwX4_compare_3 : List UInt8 := [162, 0, 21, 42, 180, 0, 7, 42, 180, 0, 100, 51, 16, 61, 160, 0, 7, 4, 167, 0, 4, 3, 62, 29]
abbrev dktX4_compare_3 : List UInt8 := dkwX4_compare_3 ++ dktX4_compare_4
def dkwX4_compare_2 : List UInt8 := [180, 0, 100, 4, 96, 181, 0, 100, 27, 16, 61, 159, 0, 32, 42, 180, 0, 100, 42, 180, 0, 90]
abbrev dktX4_compare_2 : List UInt8 := dkwX4_compare_2 ++ dktX4_compare_3
def dkwX4_compare_1 : List UInt8 := [159, 0, 22, 27, 16, 61, 159, 0, 16, 27, 16, 62, 159, 0, 10, 42, 3, 28, 182, 0, 121, 172, 42, 89]
abbrev dktX4_compare_1 : List UInt8 := dkwX4_compare_1 ++ dktX4_compare_2
def dkwX4_compare_0 : List UInt8 := [42, 182, 0, 193, 154, 0, 5, 3, 172, 42, 182, 0, 103, 60, 42, 180, 0, 100, 61, 27, 16, 60]
abbrev dktX4_compare_0 : List UInt8 := dkwX4_compare_0 ++ dktX4_compare_1
theorem dksX4_compare_0 : cX4_compare.data.toList.drop 0 = dktX4_compare_0 := by decide +kernel
theorem dksX4_compare_1 : cX4_compare.data.toList.drop 22 = dktX4_compare_1 := dk_seg dksX4_compare_0 22 rfl rfl
theorem dksX4_compare_2 : cX4_compare.data.toList.drop 46 = dktX4_compare_2 := dk_seg dksX4_compare_1 24 rfl rfl
theorem dksX4_compare_3 : cX4_compare.data.toList.drop 68 = dktX4_compare_3 := dk_seg dksX4_compare_2 22 rfl rfl
theorem dksX4_compare_4 : cX4_compare.data.toList.drop 92 = dktX4_compare_4 := dk_seg dksX4_compare_3 24 rfl rfl
theorem dksX4_compare_5 : cX4_compare.data.toList.drop 116 = dktX4_compare_5 := dk_seg dksX4_compare_4 24 rfl rfl
theorem dksX4_compare_6 : cX4_compare.data.toList.drop 140 = dktX4_compare_6 := dk_seg dksX4_compare_5 24 rfl rfl
theorem dksX4_compare_7 : cX4_compare.data.toList.drop 164 = dktX4_compare_7 := dk_seg dksX4_compare_6 24 rfl rfl
theorem dX4_compare_0 : decode cX4_compare 0 = .ok (.aload_n 0, 1) := dk_42 (dk_at dksX4_compare_0 0 rfl rfl)
theorem dX4_compare_1 : decode cX4_compare 1 = .ok (.invokevirtual 193, 3) := dk_182 0 193 (dk_at dksX4_compare_0 1 rfl rfl)
theorem dX4_compare_4 : decode cX4_compare 4 = .ok (.ifCond .ne 5, 3) := dk_154 0 5 (dk_at dksX4_compare_0 4 rfl rfl)
theorem dX4_compare_7 : decode cX4_compare 7 = .ok (.iconst 0, 1) := dk_3 (dk_at dksX4_compare_0 7 rfl rfl)
theorem dX4_compare_8 : decode cX4_compare 8 = .ok (.ireturn, 1) := dk_172 (dk_at dksX4_compare_0 8 rfl rfl)
theorem dX4_compare_9 : decode cX4_compare 9 = .ok (.aload_n 0, 1) := dk_42 (dk_at dksX4_compare_0 9 rfl rfl)
theorem dX4_compare_10 : decode cX4_compare 10 = .ok (.invokevirtual 103, 3) := dk_182 0 103 (dk_at dksX4_compare_0 10 rfl rfl)
theorem dX4_compare_13 : decode cX4_compare 13 = .ok (.istore_n 1, 1) := dk_60 (dk_at dksX4_compare_0 13 rfl rfl)
theorem dX4_compare_14 : decode cX4_compare 14 = .ok (.aload_n 0, 1) := dk_42 (dk_at dksX4_compare_0 14 rfl rfl)
theorem dX4_compare_15 : decode cX4_compare 15 = .ok (.getfield 100, 3) := dk_180 0 100 (dk_at dksX4_compare_0 15 rfl rfl)
theorem dX4_compare_18 : decode cX4_compare 18 = .ok (.istore_n 2, 1) := dk_61 (dk_at dksX4_compare_0 18 rfl rfl)
theorem dX4_compare_19 : decode cX4_compare 19 = .ok (.iload_n 1, 1) := dk_27 (dk_at dksX4_compare_0 19 rfl rfl)
theorem dX4_compare_20 : decode cX4_compare 20 = .ok (.bipush 60, 2) := dk_16 60 (dk_at dksX4_compare_0 20 rfl rfl)
theorem dX4_compare_22 : decode cX4_compare 22 = .ok (.if_icmp .eq 22, 3) := dk_159 0 22 (dk_at dksX4_compare_1 0 rfl rfl)
theorem dX4_compare_25 : decode cX4_compare 25 = .ok (.iload_n 1, 1) := dk_27 (dk_at dksX4_compare_1 3 rfl rfl)
theorem dX4_compare_26 : decode cX4_compare 26 = .ok (.bipush 61, 2) := dk_16 61 (dk_at dksX4_compare_1 4 rfl rfl)
theorem dX4_compare_28 : decode cX4_compare 28 = .ok (.if_icmp .eq 16, 3) := dk_159 0 16 (dk_at dksX4_compare_1 6 rfl rfl)
theorem dX4_compare_31 : decode cX4_compare 31 = .ok (.iload_n 1, 1) := dk_27 (dk_at dksX4_compare_1 9 rfl rfl)
theorem dX4_compare_32 : decode cX4_compare 32 = .ok (.bipush 62, 2) := dk_16 62 (dk_at dksX4_compare_1 10 rfl rfl)
theorem dX4_compare_34 : decode cX4_compare 34 = .ok (.if_icmp .eq 10, 3) := dk_159 0 10 (dk_at dksX4_compare_1 12 rfl rfl)
theorem dX4_compare_37 : decode cX4_compare 37 = .ok (.aload_n 0, 1) := dk_42 (dk_at dksX4_compare_1 15 rfl rfl)
theorem dX4_compare_38 : decode cX4_compare 38 = .ok (.iconst 0, 1) := dk_3 (dk_at dksX4_compare_1 16 rfl rfl)
theorem dX4_compare_39 : decode cX4_compare 39 = .ok (.iload_n 2, 1) := dk_28 (dk_at dksX4_compare_1 17 rfl rfl)
theorem dX4_compare_40 : decode cX4_compare 40 = .ok (.invokevirtual 121, 3) := dk_182 0 121 (dk_at dksX4_compare_1 18 rfl rfl)
theorem dX4_compare_43 : decode cX4_compare 43 = .ok (.ireturn, 1) := dk_172 (dk_at dksX4_compare_1 21 rfl rfl)
theorem dX4_compare_44 : decode cX4_compare 44 = .ok (.aload_n 0, 1) := dk_42 (dk_at dksX4_compare_1 22 rfl rfl)
theorem dX4_compare_45 : decode cX4_compare 45 = .ok (.dup, 1) := dk_89 (dk_at dksX4_compare_1 23 rfl rfl)
theorem dX4_compare_46 : decode cX4_compare 46 = .ok (.getfield 100, 3) := dk_180 0 100 (dk_at dksX4_compare_2 0 rfl rfl)
theorem dX4_compare_49 : decode cX4_compare 49 = .ok (.iconst 1, 1) := dk_4 (dk_at dksX4_compare_2 3 rfl rfl)
theorem dX4_compare_50 : decode cX4_compare 50 = .ok (.iadd, 1) := dk_96 (dk_at dksX4_compare_2 4 rfl rfl)
theorem dX4_compare_51 : decode cX4_compare 51 = .ok (.putfield 100, 3) := dk_181 0 100 (dk_at dksX4_compare_2 5 rfl rfl)
theorem dX4_compare_54 : decode cX4_compare 54 = .ok (.iload_n 1, 1) := dk_27 (dk_at dksX4_compare_2 8 rfl rfl)
theorem dX4_compare_55 : decode cX4_compare 55 = .ok (.bipush 61, 2) := dk_16 61 (dk_at dksX4_compare_2 9 rfl rfl)
theorem dX4_compare_57 : decode cX4_compare 57 = .ok (.if_icmp .eq 32, 3) := dk_159 0 32 (dk_at dksX4_compare_2 11 rfl rfl)
theorem dX4_compare_60 : decode cX4_compare 60 = .ok (.aload_n 0, 1) := dk_42 (dk_at dksX4_compare_2 14 rfl rfl)
theorem dX4_compare_61 : decode cX4_compare 61 = .ok (.getfield 100, 3) := dk_180 0 100 (dk_at dksX4_compare_2 15 rfl rfl)
theorem dX4_compare_64 : decode cX4_compare 64 = .ok (.aload_n 0, 1) := dk_42 (dk_at dksX4_compare_2 18 rfl rfl)
theorem dX4_compare_65 : decode cX4_compare 65 = .ok (.getfield 90, 3) := dk_180 0 90 (dk_at dksX4_compare_2 19 rfl rfl)
theorem dX4_compare_68 : decode cX4_compare 68 = .ok (.if_icmp .ge 21, 3) := dk_162 0 21 (dk_at dksX4_compare_3 0 rfl rfl)
theorem dX4_compare_71 : decode cX4_compare 71 = .ok (.aload_n 0, 1) := dk_42 (dk_at dksX4_compare_3 3 rfl rfl)
theorem dX4_compare_72 : decode cX4_compare 72 = .ok (.getfield 7, 3) := dk_180 0 7 (dk_at dksX4_compare_3 4 rfl rfl)
theorem dX4_compare_75 : decode cX4_compare 75 = .ok (.aload_n 0, 1) := dk_42 (dk_at dksX4_compare_3 7 rfl rfl)
theorem dX4_compare_76 : decode cX4_compare 76 = .ok (.getfield 100, 3) := dk_180 0 100 (dk_at dksX4_compare_3 8 rfl rfl)
theorem dX4_compare_79 : decode cX4_compare 79 = .ok (.baload, 1) := dk_51 (dk_at dksX4_compare_3 11 rfl rfl)
theorem dX4_compare_80 : decode cX4_compare 80 = .ok (.bipush 61, 2) := dk_16 61 (dk_at dksX4_compare_3 12 rfl rfl)
theorem dX4_compare_82 : decode cX4_compare 82 = .ok (.if_icmp .ne 7, 3) := dk_160 0 7 (dk_at dksX4_compare_3 14 rfl rfl)
theorem dX4_compare_85 : decode cX4_compare 85 = .ok (.iconst 1, 1) := dk_4 (dk_at dksX4_compare_3 17 rfl rfl)
theorem dX4_compare_86 : decode cX4_compare 86 = .ok (.goto 4, 3) := dk_167 0 4 (dk_at dksX4_compare_3 18 rfl rfl)
theorem dX4_compare_89 : decode cX4_compare 89 = .ok (.iconst 0, 1) := dk_3 (dk_at dksX4_compare_3 21 rfl rfl)
theorem dX4_compare_90 : decode cX4_compare 90 = .ok (.istore_n 3, 1) := dk_62 (dk_at dksX4_compare_3 22 rfl rfl)
theorem dX4_compare_91 : decode cX4_compare 91 = .ok (.iload_n 3, 1) := dk_29 (dk_at dksX4_compare_3 23 rfl rfl)
theorem dX4_compare_92 : decode cX4_compare 92 = .ok (.ifCond .eq 13, 3) := dk_153 0 13 (dk_at dksX4_compare_4 0 rfl rfl)
theorem dX4_compare_95 : decode cX4_compare 95 = .ok (.aload_n 0, 1) := dk_42 (dk_at dksX4_compare_4 3 rfl rfl)
theorem dX4_compare_96 : decode cX4_compare 96 = .ok (.dup, 1) := dk_89 (dk_at dksX4_compare_4 4 rfl rfl)
theorem dX4_compare_97 : decode cX4_compare 97 = .ok (.getfield 100, 3) := dk_180 0 100 (dk_at dksX4_compare_4 5 rfl rfl)
theorem dX4_compare_100 : decode cX4_compare 100 = .ok (.iconst 1, 1) := dk_4 (dk_at dksX4_compare_4 8 rfl rfl)
theorem dX4_compare_101 : decode cX4_compare 101 = .ok (.iadd, 1) := dk_96 (dk_at dksX4_compare_4 9 rfl rfl)
theorem dX4_compare_102 : decode cX4_compare 102 = .ok (.putfield 100, 3) := dk_181 0 100 (dk_at dksX4_compare_4 10 rfl rfl)
theorem dX4_compare_105 : decode cX4_compare 105 = .ok (.aload_n 0, 1) := dk_42 (dk_at dksX4_compare_4 13 rfl rfl)
theorem dX4_compare_106 : decode cX4_compare 106 = .ok (.iload_n 2, 1) := dk_28 (dk_at dksX4_compare_4 14 rfl rfl)
theorem dX4_compare_107 : decode cX4_compare 107 = .ok (.invokevirtual 180, 3) := dk_182 0 180 (dk_at dksX4_compare_4 15 rfl rfl)
theorem dX4_compare_110 : decode cX4_compare 110 = .ok (.ifCond .ne 5, 3) := dk_154 0 5 (dk_at dksX4_compare_4 18 rfl rfl)
theorem dX4_compare_113 : decode cX4_compare 113 = .ok (.iconst 0, 1) := dk_3 (dk_at dksX4_compare_4 21 rfl rfl)
theorem dX4_compare_114 : decode cX4_compare 114 = .ok (.ireturn, 1) := dk_172 (dk_at dksX4_compare_4 22 rfl rfl)
theorem dX4_compare_115 : decode cX4_compare 115 = .ok (.iload_n 1, 1) := dk_27 (dk_at dksX4_compare_4 23 rfl rfl)
theorem dX4_compare_116 : decode cX4_compare 116 = .ok (.bipush 60, 2) := dk_16 60 (dk_at dksX4_compare_5 0 rfl rfl)
theorem dX4_compare_118 : decode cX4_compare 118 = .ok (.if_icmp .ne 15, 3) := dk_160 0 15 (dk_at dksX4_compare_5 2 rfl rfl)
theorem dX4_compare_121 : decode cX4_compare 121 = .ok (.iload_n 3, 1) := dk_29 (dk_at dksX4_compare_5 5 rfl rfl)
theorem dX4_compare_122 : decode cX4_compare 122 = .ok (.ifCond .eq 7, 3) := dk_153 0 7 (dk_at dksX4_compare_5 6 rfl rfl)
theorem dX4_compare_125 : decode cX4_compare 125 = .ok (.iconst 1, 1) := dk_4 (dk_at dksX4_compare_5 9 rfl rfl)
theorem dX4_compare_126 : decode cX4_compare 126 = .ok (.goto 26, 3) := dk_167 0 26 (dk_at dksX4_compare_5 10 rfl rfl)
theorem dX4_compare_129 : decode cX4_compare 129 = .ok (.iconst 0, 1) := dk_3 (dk_at dksX4_compare_5 13 rfl rfl)
theorem dX4_compare_130 : decode cX4_compare 130 = .ok (.goto 22, 3) := dk_167 0 22 (dk_at dksX4_compare_5 14 rfl rfl)
theorem dX4_compare_133 : decode cX4_compare 133 = .ok (.iload_n 1, 1) := dk_27 (dk_at dksX4_compare_5 17 rfl rfl)
theorem dX4_compare_134 : decode cX4_compare 134 = .ok (.bipush 61, 2) := dk_16 61 (dk_at dksX4_compare_5 18 rfl rfl)
theorem dX4_compare_136 : decode cX4_compare 136 = .ok (.if_icmp .ne 7, 3) := dk_160 0 7 (dk_at dksX4_compare_5 20 rfl rfl)
theorem dX4_compare_139 : decode cX4_compare 139 = .ok (.iconst 2, 1) := dk_5 (dk_at dksX4_compare_5 23 rfl rfl)
theorem dX4_compare_140 : decode cX4_compare 140 = .ok (.goto 12, 3) := dk_167 0 12 (dk_at dksX4_compare_6 0 rfl rfl)
theorem dX4_compare_143 : decode cX4_compare 143 = .ok (.iload_n 3, 1) := dk_29 (dk_at dksX4_compare_6 3 rfl rfl)
theorem dX4_compare_144 : decode cX4_compare 144 = .ok (.ifCond .eq 7, 3) := dk_153 0 7 (dk_at dksX4_compare_6 4 rfl rfl)
theorem dX4_compare_147 : decode cX4_compare 147 = .ok (.iconst 3, 1) := dk_6 (dk_at dksX4_compare_6 7 rfl rfl)
theorem dX4_compare_148 : decode cX4_compare 148 = .ok (.goto 4, 3) := dk_167 0 4 (dk_at dksX4_compare_6 8 rfl rfl)
theorem dX4_compare_151 : decode cX4_compare 151 = .ok (.iconst 4, 1) := dk_7 (dk_at dksX4_compare_6 11 rfl rfl)
theorem dX4_compare_152 : decode cX4_compare 152 = .ok (.istore 4, 2) := dk_54 4 (dk_at dksX4_compare_6 12 rfl rfl)
theorem dX4_compare_154 : decode cX4_compare 154 = .ok (.aload_n 0, 1) := dk_42 (dk_at dksX4_compare_6 14 rfl rfl)
theorem dX4_compare_155 : decode cX4_compare 155 = .ok (.invokevirtual 193, 3) := dk_182 0 193 (dk_at dksX4_compare_6 15 rfl rfl)
theorem dX4_compare_158 : decode cX4_compare 158 = .ok (.ifCond .ne 5, 3) := dk_154 0 5 (dk_at dksX4_compare_6 18 rfl rfl)
theorem dX4_compare_161 : decode cX4_compare 161 = .ok (.iconst 0, 1) := dk_3 (dk_at dksX4_compare_6 21 rfl rfl)
theorem dX4_compare_162 : decode cX4_compare 162 = .ok (.ireturn, 1) := dk_172 (dk_at dksX4_compare_6 22 rfl rfl)
theorem dX4_compare_163 : decode cX4_compare 163 = .ok (.aload_n 0, 1) := dk_42 (dk_at dksX4_compare_6 23 rfl rfl)
theorem dX4_compare_164 : decode cX4_compare 164 = .ok (.bipush 6, 2) := dk_16 6 (dk_at dksX4_compare_7 0 rfl rfl)
theorem dX4_compare_166 : decode cX4_compare 166 = .ok (.iload 4, 2) := dk_21 4 (dk_at dksX4_compare_7 2 rfl rfl)
theorem dX4_compare_168 : decode cX4_compare 168 = .ok (.iadd, 1) := dk_96 (dk_at dksX4_compare_7 4 rfl rfl)
theorem dX4_compare_169 : decode cX4_compare 169 = .ok (.iconst 0, 1) := dk_3 (dk_at dksX4_compare_7 5 rfl rfl)
theorem dX4_compare_170 : decode cX4_compare 170 = .ok (.invokevirtual 172, 3) := dk_182 0 172 (dk_at dksX4_compare_7 6 rfl rfl)
theorem dX4_compare_173 : decode cX4_compare 173 = .ok (.iconst 1, 1) := dk_4 (dk_at dksX4_compare_7 9 rfl rfl)
theorem dX4_compare_174 : decode cX4_compare 174 = .ok (.ireturn, 1) := dk_172 (dk_at dksX4_compare_7 10 rfl rfl)
abbrev cX4_closes : ByteArray := prog_20_method_27_code
def yX4_closes : MethodName := ⟨RX4, "closes", "()V"⟩
def dkwX4_closes_2 : List UInt8 := [89, 180, 0, 100, 4, 96, 181, 0, 100, 42, 6, 182, 0, 204, 167, 255, 200, 177]
abbrev dktX4_closes_2 : List UInt8 := dkwX4_closes_2 ++ []
def dkwX4_closes_1 : List UInt8 := [182, 0, 204, 42, 89, 180, 0, 165, 4, 100, 181, 0, 165, 42, 89, 180, 0, 162, 4, 100, 181, 0, 162, 42]
abbrev dktX4_closes_1 : List UInt8 := dkwX4_closes_1 ++ dktX4_closes_2
def dkwX4_closes_0 : List UInt8 := [42, 6, 182, 0, 204, 42, 182, 0, 103, 16, 93, 160, 0, 53, 42, 182, 0, 207, 153, 0, 46, 42, 4]
abbrev dktX4_closes_0 : List UInt8 := dkwX4_closes_0 ++ dktX4_closes_1
theorem dksX4_closes_0 : cX4_closes.data.toList.drop 0 = dktX4_closes_0 := by decide +kernel
theorem dksX4_closes_1 : cX4_closes.data.toList.drop 23 = dktX4_closes_1 := dk_seg dksX4_closes_0 23 rfl rfl
theorem dksX4_closes_2 : cX4_closes.data.toList.drop 47 = dktX4_closes_2 := dk_seg dksX4_closes_1 24 rfl rfl
theorem dX4_closes_0 : decode cX4_closes 0 = .ok (.aload_n 0, 1) := dk_42 (dk_at dksX4_closes_0 0 rfl rfl)
theorem dX4_closes_1 : decode cX4_closes 1 = .ok (.iconst 3, 1) := dk_6 (dk_at dksX4_closes_0 1 rfl rfl)
theorem dX4_closes_2 : decode cX4_closes 2 = .ok (.invokevirtual 204, 3) := dk_182 0 204 (dk_at dksX4_closes_0 2 rfl rfl)
theorem dX4_closes_5 : decode cX4_closes 5 = .ok (.aload_n 0, 1) := dk_42 (dk_at dksX4_closes_0 5 rfl rfl)
theorem dX4_closes_6 : decode cX4_closes 6 = .ok (.invokevirtual 103, 3) := dk_182 0 103 (dk_at dksX4_closes_0 6 rfl rfl)
theorem dX4_closes_9 : decode cX4_closes 9 = .ok (.bipush 93, 2) := dk_16 93 (dk_at dksX4_closes_0 9 rfl rfl)
theorem dX4_closes_11 : decode cX4_closes 11 = .ok (.if_icmp .ne 53, 3) := dk_160 0 53 (dk_at dksX4_closes_0 11 rfl rfl)
theorem dX4_closes_14 : decode cX4_closes 14 = .ok (.aload_n 0, 1) := dk_42 (dk_at dksX4_closes_0 14 rfl rfl)
theorem dX4_closes_15 : decode cX4_closes 15 = .ok (.invokevirtual 207, 3) := dk_182 0 207 (dk_at dksX4_closes_0 15 rfl rfl)
theorem dX4_closes_18 : decode cX4_closes 18 = .ok (.ifCond .eq 46, 3) := dk_153 0 46 (dk_at dksX4_closes_0 18 rfl rfl)
theorem dX4_closes_21 : decode cX4_closes 21 = .ok (.aload_n 0, 1) := dk_42 (dk_at dksX4_closes_0 21 rfl rfl)
theorem dX4_closes_22 : decode cX4_closes 22 = .ok (.iconst 1, 1) := dk_4 (dk_at dksX4_closes_0 22 rfl rfl)
theorem dX4_closes_23 : decode cX4_closes 23 = .ok (.invokevirtual 204, 3) := dk_182 0 204 (dk_at dksX4_closes_1 0 rfl rfl)
theorem dX4_closes_26 : decode cX4_closes 26 = .ok (.aload_n 0, 1) := dk_42 (dk_at dksX4_closes_1 3 rfl rfl)
theorem dX4_closes_27 : decode cX4_closes 27 = .ok (.dup, 1) := dk_89 (dk_at dksX4_closes_1 4 rfl rfl)
theorem dX4_closes_28 : decode cX4_closes 28 = .ok (.getfield 165, 3) := dk_180 0 165 (dk_at dksX4_closes_1 5 rfl rfl)
theorem dX4_closes_31 : decode cX4_closes 31 = .ok (.iconst 1, 1) := dk_4 (dk_at dksX4_closes_1 8 rfl rfl)
theorem dX4_closes_32 : decode cX4_closes 32 = .ok (.isub, 1) := dk_100 (dk_at dksX4_closes_1 9 rfl rfl)
theorem dX4_closes_33 : decode cX4_closes 33 = .ok (.putfield 165, 3) := dk_181 0 165 (dk_at dksX4_closes_1 10 rfl rfl)
theorem dX4_closes_36 : decode cX4_closes 36 = .ok (.aload_n 0, 1) := dk_42 (dk_at dksX4_closes_1 13 rfl rfl)
theorem dX4_closes_37 : decode cX4_closes 37 = .ok (.dup, 1) := dk_89 (dk_at dksX4_closes_1 14 rfl rfl)
theorem dX4_closes_38 : decode cX4_closes 38 = .ok (.getfield 162, 3) := dk_180 0 162 (dk_at dksX4_closes_1 15 rfl rfl)
theorem dX4_closes_41 : decode cX4_closes 41 = .ok (.iconst 1, 1) := dk_4 (dk_at dksX4_closes_1 18 rfl rfl)
theorem dX4_closes_42 : decode cX4_closes 42 = .ok (.isub, 1) := dk_100 (dk_at dksX4_closes_1 19 rfl rfl)
theorem dX4_closes_43 : decode cX4_closes 43 = .ok (.putfield 162, 3) := dk_181 0 162 (dk_at dksX4_closes_1 20 rfl rfl)
theorem dX4_closes_46 : decode cX4_closes 46 = .ok (.aload_n 0, 1) := dk_42 (dk_at dksX4_closes_1 23 rfl rfl)
theorem dX4_closes_47 : decode cX4_closes 47 = .ok (.dup, 1) := dk_89 (dk_at dksX4_closes_2 0 rfl rfl)
theorem dX4_closes_48 : decode cX4_closes 48 = .ok (.getfield 100, 3) := dk_180 0 100 (dk_at dksX4_closes_2 1 rfl rfl)
theorem dX4_closes_51 : decode cX4_closes 51 = .ok (.iconst 1, 1) := dk_4 (dk_at dksX4_closes_2 4 rfl rfl)
theorem dX4_closes_52 : decode cX4_closes 52 = .ok (.iadd, 1) := dk_96 (dk_at dksX4_closes_2 5 rfl rfl)
theorem dX4_closes_53 : decode cX4_closes 53 = .ok (.putfield 100, 3) := dk_181 0 100 (dk_at dksX4_closes_2 6 rfl rfl)
theorem dX4_closes_56 : decode cX4_closes 56 = .ok (.aload_n 0, 1) := dk_42 (dk_at dksX4_closes_2 9 rfl rfl)
theorem dX4_closes_57 : decode cX4_closes 57 = .ok (.iconst 3, 1) := dk_6 (dk_at dksX4_closes_2 10 rfl rfl)
theorem dX4_closes_58 : decode cX4_closes 58 = .ok (.invokevirtual 204, 3) := dk_182 0 204 (dk_at dksX4_closes_2 11 rfl rfl)
theorem dX4_closes_61 : decode cX4_closes 61 = .ok (.goto (-56), 3) := dk_167 255 200 (dk_at dksX4_closes_2 14 rfl rfl)
theorem dX4_closes_64 : decode cX4_closes 64 = .ok (.return_, 1) := dk_177 (dk_at dksX4_closes_2 17 rfl rfl)
abbrev cX4_settles : ByteArray := prog_20_method_20_code
def yX4_settles : MethodName := ⟨RX4, "settles", "(I)V"⟩
def dkwX4_settles_3 : List UInt8 := [181, 0, 162, 167, 255, 183, 177]
abbrev dktX4_settles_3 : List UInt8 := dkwX4_settles_3 ++ []
def dkwX4_settles_2 : List UInt8 := [182, 0, 172, 42, 180, 0, 29, 42, 180, 0, 165, 46, 16, 11, 160, 255, 196, 42, 89, 180, 0, 162, 4, 100]
abbrev dktX4_settles_2 : List UInt8 := dkwX4_settles_2 ++ dktX4_settles_3
def dkwX4_settles_1 : List UInt8 := [161, 0, 54, 42, 89, 180, 0, 165, 4, 100, 181, 0, 165, 42, 42, 180, 0, 29, 42, 180, 0, 165, 46, 3]
abbrev dktX4_settles_1 : List UInt8 := dkwX4_settles_1 ++ dktX4_settles_2
def dkwX4_settles_0 : List UInt8 := [42, 180, 0, 165, 158, 0, 72, 42, 180, 0, 29, 42, 180, 0, 165, 4, 100, 46, 184, 0, 168, 27]
abbrev dktX4_settles_0 : List UInt8 := dkwX4_settles_0 ++ dktX4_settles_1
theorem dksX4_settles_0 : cX4_settles.data.toList.drop 0 = dktX4_settles_0 := by decide +kernel
theorem dksX4_settles_1 : cX4_settles.data.toList.drop 22 = dktX4_settles_1 := dk_seg dksX4_settles_0 22 rfl rfl
theorem dksX4_settles_2 : cX4_settles.data.toList.drop 46 = dktX4_settles_2 := dk_seg dksX4_settles_1 24 rfl rfl
theorem dksX4_settles_3 : cX4_settles.data.toList.drop 70 = dktX4_settles_3 := dk_seg dksX4_settles_2 24 rfl rfl
theorem dX4_settles_0 : decode cX4_settles 0 = .ok (.aload_n 0, 1) := dk_42 (dk_at dksX4_settles_0 0 rfl rfl)
theorem dX4_settles_1 : decode cX4_settles 1 = .ok (.getfield 165, 3) := dk_180 0 165 (dk_at dksX4_settles_0 1 rfl rfl)
theorem dX4_settles_4 : decode cX4_settles 4 = .ok (.ifCond .le 72, 3) := dk_158 0 72 (dk_at dksX4_settles_0 4 rfl rfl)
theorem dX4_settles_7 : decode cX4_settles 7 = .ok (.aload_n 0, 1) := dk_42 (dk_at dksX4_settles_0 7 rfl rfl)
theorem dX4_settles_8 : decode cX4_settles 8 = .ok (.getfield 29, 3) := dk_180 0 29 (dk_at dksX4_settles_0 8 rfl rfl)
theorem dX4_settles_11 : decode cX4_settles 11 = .ok (.aload_n 0, 1) := dk_42 (dk_at dksX4_settles_0 11 rfl rfl)
theorem dX4_settles_12 : decode cX4_settles 12 = .ok (.getfield 165, 3) := dk_180 0 165 (dk_at dksX4_settles_0 12 rfl rfl)
theorem dX4_settles_15 : decode cX4_settles 15 = .ok (.iconst 1, 1) := dk_4 (dk_at dksX4_settles_0 15 rfl rfl)
theorem dX4_settles_16 : decode cX4_settles 16 = .ok (.isub, 1) := dk_100 (dk_at dksX4_settles_0 16 rfl rfl)
theorem dX4_settles_17 : decode cX4_settles 17 = .ok (.iaload, 1) := dk_46 (dk_at dksX4_settles_0 17 rfl rfl)
theorem dX4_settles_18 : decode cX4_settles 18 = .ok (.invokestatic 168, 3) := dk_184 0 168 (dk_at dksX4_settles_0 18 rfl rfl)
theorem dX4_settles_21 : decode cX4_settles 21 = .ok (.iload_n 1, 1) := dk_27 (dk_at dksX4_settles_0 21 rfl rfl)
theorem dX4_settles_22 : decode cX4_settles 22 = .ok (.if_icmp .lt 54, 3) := dk_161 0 54 (dk_at dksX4_settles_1 0 rfl rfl)
theorem dX4_settles_25 : decode cX4_settles 25 = .ok (.aload_n 0, 1) := dk_42 (dk_at dksX4_settles_1 3 rfl rfl)
theorem dX4_settles_26 : decode cX4_settles 26 = .ok (.dup, 1) := dk_89 (dk_at dksX4_settles_1 4 rfl rfl)
theorem dX4_settles_27 : decode cX4_settles 27 = .ok (.getfield 165, 3) := dk_180 0 165 (dk_at dksX4_settles_1 5 rfl rfl)
theorem dX4_settles_30 : decode cX4_settles 30 = .ok (.iconst 1, 1) := dk_4 (dk_at dksX4_settles_1 8 rfl rfl)
theorem dX4_settles_31 : decode cX4_settles 31 = .ok (.isub, 1) := dk_100 (dk_at dksX4_settles_1 9 rfl rfl)
theorem dX4_settles_32 : decode cX4_settles 32 = .ok (.putfield 165, 3) := dk_181 0 165 (dk_at dksX4_settles_1 10 rfl rfl)
theorem dX4_settles_35 : decode cX4_settles 35 = .ok (.aload_n 0, 1) := dk_42 (dk_at dksX4_settles_1 13 rfl rfl)
theorem dX4_settles_36 : decode cX4_settles 36 = .ok (.aload_n 0, 1) := dk_42 (dk_at dksX4_settles_1 14 rfl rfl)
theorem dX4_settles_37 : decode cX4_settles 37 = .ok (.getfield 29, 3) := dk_180 0 29 (dk_at dksX4_settles_1 15 rfl rfl)
theorem dX4_settles_40 : decode cX4_settles 40 = .ok (.aload_n 0, 1) := dk_42 (dk_at dksX4_settles_1 18 rfl rfl)
theorem dX4_settles_41 : decode cX4_settles 41 = .ok (.getfield 165, 3) := dk_180 0 165 (dk_at dksX4_settles_1 19 rfl rfl)
theorem dX4_settles_44 : decode cX4_settles 44 = .ok (.iaload, 1) := dk_46 (dk_at dksX4_settles_1 22 rfl rfl)
theorem dX4_settles_45 : decode cX4_settles 45 = .ok (.iconst 0, 1) := dk_3 (dk_at dksX4_settles_1 23 rfl rfl)
theorem dX4_settles_46 : decode cX4_settles 46 = .ok (.invokevirtual 172, 3) := dk_182 0 172 (dk_at dksX4_settles_2 0 rfl rfl)
theorem dX4_settles_49 : decode cX4_settles 49 = .ok (.aload_n 0, 1) := dk_42 (dk_at dksX4_settles_2 3 rfl rfl)
theorem dX4_settles_50 : decode cX4_settles 50 = .ok (.getfield 29, 3) := dk_180 0 29 (dk_at dksX4_settles_2 4 rfl rfl)
theorem dX4_settles_53 : decode cX4_settles 53 = .ok (.aload_n 0, 1) := dk_42 (dk_at dksX4_settles_2 7 rfl rfl)
theorem dX4_settles_54 : decode cX4_settles 54 = .ok (.getfield 165, 3) := dk_180 0 165 (dk_at dksX4_settles_2 8 rfl rfl)
theorem dX4_settles_57 : decode cX4_settles 57 = .ok (.iaload, 1) := dk_46 (dk_at dksX4_settles_2 11 rfl rfl)
theorem dX4_settles_58 : decode cX4_settles 58 = .ok (.bipush 11, 2) := dk_16 11 (dk_at dksX4_settles_2 12 rfl rfl)
theorem dX4_settles_60 : decode cX4_settles 60 = .ok (.if_icmp .ne (-60), 3) := dk_160 255 196 (dk_at dksX4_settles_2 14 rfl rfl)
theorem dX4_settles_63 : decode cX4_settles 63 = .ok (.aload_n 0, 1) := dk_42 (dk_at dksX4_settles_2 17 rfl rfl)
theorem dX4_settles_64 : decode cX4_settles 64 = .ok (.dup, 1) := dk_89 (dk_at dksX4_settles_2 18 rfl rfl)
theorem dX4_settles_65 : decode cX4_settles 65 = .ok (.getfield 162, 3) := dk_180 0 162 (dk_at dksX4_settles_2 19 rfl rfl)
theorem dX4_settles_68 : decode cX4_settles 68 = .ok (.iconst 1, 1) := dk_4 (dk_at dksX4_settles_2 22 rfl rfl)
theorem dX4_settles_69 : decode cX4_settles 69 = .ok (.isub, 1) := dk_100 (dk_at dksX4_settles_2 23 rfl rfl)
theorem dX4_settles_70 : decode cX4_settles 70 = .ok (.putfield 162, 3) := dk_181 0 162 (dk_at dksX4_settles_3 0 rfl rfl)
theorem dX4_settles_73 : decode cX4_settles 73 = .ok (.goto (-73), 3) := dk_167 255 183 (dk_at dksX4_settles_3 3 rfl rfl)
theorem dX4_settles_76 : decode cX4_settles 76 = .ok (.return_, 1) := dk_177 (dk_at dksX4_settles_3 6 rfl rfl)
abbrev cX4_strength : ByteArray := prog_20_method_19_code
def yX4_strength : MethodName := ⟨RX4, "strength", "(I)I"⟩
def dkwX4_strength_1 : List UInt8 := [160, 0, 7, 6, 167, 0, 4, 3, 172]
abbrev dktX4_strength_1 : List UInt8 := dkwX4_strength_1 ++ []
def dkwX4_strength_0 : List UInt8 := [26, 16, 13, 160, 0, 7, 4, 167, 0, 24, 26, 16, 12, 160, 0, 7, 5, 167, 0, 14, 26, 16, 11]
abbrev dktX4_strength_0 : List UInt8 := dkwX4_strength_0 ++ dktX4_strength_1
theorem dksX4_strength_0 : cX4_strength.data.toList.drop 0 = dktX4_strength_0 := by decide +kernel
theorem dksX4_strength_1 : cX4_strength.data.toList.drop 23 = dktX4_strength_1 := dk_seg dksX4_strength_0 23 rfl rfl
theorem dX4_strength_0 : decode cX4_strength 0 = .ok (.iload_n 0, 1) := dk_26 (dk_at dksX4_strength_0 0 rfl rfl)
theorem dX4_strength_1 : decode cX4_strength 1 = .ok (.bipush 13, 2) := dk_16 13 (dk_at dksX4_strength_0 1 rfl rfl)
theorem dX4_strength_3 : decode cX4_strength 3 = .ok (.if_icmp .ne 7, 3) := dk_160 0 7 (dk_at dksX4_strength_0 3 rfl rfl)
theorem dX4_strength_6 : decode cX4_strength 6 = .ok (.iconst 1, 1) := dk_4 (dk_at dksX4_strength_0 6 rfl rfl)
theorem dX4_strength_7 : decode cX4_strength 7 = .ok (.goto 24, 3) := dk_167 0 24 (dk_at dksX4_strength_0 7 rfl rfl)
theorem dX4_strength_10 : decode cX4_strength 10 = .ok (.iload_n 0, 1) := dk_26 (dk_at dksX4_strength_0 10 rfl rfl)
theorem dX4_strength_11 : decode cX4_strength 11 = .ok (.bipush 12, 2) := dk_16 12 (dk_at dksX4_strength_0 11 rfl rfl)
theorem dX4_strength_13 : decode cX4_strength 13 = .ok (.if_icmp .ne 7, 3) := dk_160 0 7 (dk_at dksX4_strength_0 13 rfl rfl)
theorem dX4_strength_16 : decode cX4_strength 16 = .ok (.iconst 2, 1) := dk_5 (dk_at dksX4_strength_0 16 rfl rfl)
theorem dX4_strength_17 : decode cX4_strength 17 = .ok (.goto 14, 3) := dk_167 0 14 (dk_at dksX4_strength_0 17 rfl rfl)
theorem dX4_strength_20 : decode cX4_strength 20 = .ok (.iload_n 0, 1) := dk_26 (dk_at dksX4_strength_0 20 rfl rfl)
theorem dX4_strength_21 : decode cX4_strength 21 = .ok (.bipush 11, 2) := dk_16 11 (dk_at dksX4_strength_0 21 rfl rfl)
theorem dX4_strength_23 : decode cX4_strength 23 = .ok (.if_icmp .ne 7, 3) := dk_160 0 7 (dk_at dksX4_strength_1 0 rfl rfl)
theorem dX4_strength_26 : decode cX4_strength 26 = .ok (.iconst 3, 1) := dk_6 (dk_at dksX4_strength_1 3 rfl rfl)
theorem dX4_strength_27 : decode cX4_strength 27 = .ok (.goto 4, 3) := dk_167 0 4 (dk_at dksX4_strength_1 4 rfl rfl)
theorem dX4_strength_30 : decode cX4_strength 30 = .ok (.iconst 0, 1) := dk_3 (dk_at dksX4_strength_1 7 rfl rfl)
theorem dX4_strength_31 : decode cX4_strength 31 = .ok (.ireturn, 1) := dk_172 (dk_at dksX4_strength_1 8 rfl rfl)
abbrev cX4_isInside : ByteArray := prog_20_method_26_code
def yX4_isInside : MethodName := ⟨RX4, "isInside", "()Z"⟩
def dkwX4_isInside_1 : List UInt8 := [132, 1, 1, 167, 255, 232, 3, 172]
abbrev dktX4_isInside_1 : List UInt8 := dkwX4_isInside_1 ++ []
def dkwX4_isInside_0 : List UInt8 := [3, 60, 27, 42, 180, 0, 165, 162, 0, 22, 42, 180, 0, 29, 27, 46, 16, 91, 160, 0, 5, 4, 172]
abbrev dktX4_isInside_0 : List UInt8 := dkwX4_isInside_0 ++ dktX4_isInside_1
theorem dksX4_isInside_0 : cX4_isInside.data.toList.drop 0 = dktX4_isInside_0 := by decide +kernel
theorem dksX4_isInside_1 : cX4_isInside.data.toList.drop 23 = dktX4_isInside_1 := dk_seg dksX4_isInside_0 23 rfl rfl
theorem dX4_isInside_0 : decode cX4_isInside 0 = .ok (.iconst 0, 1) := dk_3 (dk_at dksX4_isInside_0 0 rfl rfl)
theorem dX4_isInside_1 : decode cX4_isInside 1 = .ok (.istore_n 1, 1) := dk_60 (dk_at dksX4_isInside_0 1 rfl rfl)
theorem dX4_isInside_2 : decode cX4_isInside 2 = .ok (.iload_n 1, 1) := dk_27 (dk_at dksX4_isInside_0 2 rfl rfl)
theorem dX4_isInside_3 : decode cX4_isInside 3 = .ok (.aload_n 0, 1) := dk_42 (dk_at dksX4_isInside_0 3 rfl rfl)
theorem dX4_isInside_4 : decode cX4_isInside 4 = .ok (.getfield 165, 3) := dk_180 0 165 (dk_at dksX4_isInside_0 4 rfl rfl)
theorem dX4_isInside_7 : decode cX4_isInside 7 = .ok (.if_icmp .ge 22, 3) := dk_162 0 22 (dk_at dksX4_isInside_0 7 rfl rfl)
theorem dX4_isInside_10 : decode cX4_isInside 10 = .ok (.aload_n 0, 1) := dk_42 (dk_at dksX4_isInside_0 10 rfl rfl)
theorem dX4_isInside_11 : decode cX4_isInside 11 = .ok (.getfield 29, 3) := dk_180 0 29 (dk_at dksX4_isInside_0 11 rfl rfl)
theorem dX4_isInside_14 : decode cX4_isInside 14 = .ok (.iload_n 1, 1) := dk_27 (dk_at dksX4_isInside_0 14 rfl rfl)
theorem dX4_isInside_15 : decode cX4_isInside 15 = .ok (.iaload, 1) := dk_46 (dk_at dksX4_isInside_0 15 rfl rfl)
theorem dX4_isInside_16 : decode cX4_isInside 16 = .ok (.bipush 91, 2) := dk_16 91 (dk_at dksX4_isInside_0 16 rfl rfl)
theorem dX4_isInside_18 : decode cX4_isInside 18 = .ok (.if_icmp .ne 5, 3) := dk_160 0 5 (dk_at dksX4_isInside_0 18 rfl rfl)
theorem dX4_isInside_21 : decode cX4_isInside 21 = .ok (.iconst 1, 1) := dk_4 (dk_at dksX4_isInside_0 21 rfl rfl)
theorem dX4_isInside_22 : decode cX4_isInside 22 = .ok (.ireturn, 1) := dk_172 (dk_at dksX4_isInside_0 22 rfl rfl)
theorem dX4_isInside_23 : decode cX4_isInside 23 = .ok (.iinc 1 1, 3) := dk_132 1 1 (dk_at dksX4_isInside_1 0 rfl rfl)
theorem dX4_isInside_26 : decode cX4_isInside 26 = .ok (.goto (-24), 3) := dk_167 255 232 (dk_at dksX4_isInside_1 3 rfl rfl)
theorem dX4_isInside_29 : decode cX4_isInside 29 = .ok (.iconst 0, 1) := dk_3 (dk_at dksX4_isInside_1 6 rfl rfl)
theorem dX4_isInside_30 : decode cX4_isInside 30 = .ok (.ireturn, 1) := dk_172 (dk_at dksX4_isInside_1 7 rfl rfl)
abbrev cX4_castle : ByteArray := prog_20_method_42_code
def yX4_castle : MethodName := ⟨RX4, "castle", "()I"⟩
def dkwX4_castle_7 : List UInt8 := [182, 1, 23, 79, 132, 1, 1, 167, 255, 207, 42, 3, 181, 1, 27, 42, 180, 0, 39, 5, 46, 172]
abbrev dktX4_castle_7 : List UInt8 := dkwX4_castle_7 ++ []
def dkwX4_castle_6 : List UInt8 := [96, 42, 27, 3, 182, 1, 23, 79, 42, 180, 0, 39, 16, 115, 5, 27, 104, 96, 4, 96, 42, 27, 4]
abbrev dktX4_castle_6 : List UInt8 := dkwX4_castle_6 ++ dktX4_castle_7
def dkwX4_castle_5 : List UInt8 := [182, 1, 20, 3, 60, 27, 42, 180, 0, 39, 5, 46, 162, 0, 45, 42, 180, 0, 39, 16, 115, 5, 27, 104]
abbrev dktX4_castle_5 : List UInt8 := dkwX4_castle_5 ++ dktX4_castle_6
def dkwX4_castle_4 : List UInt8 := [27, 16, 84, 162, 0, 12, 42, 180, 0, 26, 27, 46, 167, 0, 4, 3, 79, 132, 1, 1, 167, 255, 225, 42]
abbrev dktX4_castle_4 : List UInt8 := dkwX4_castle_4 ++ dktX4_castle_5
def dkwX4_castle_3 : List UInt8 := [154, 0, 11, 16, 254, 42, 180, 0, 97, 100, 172, 3, 60, 27, 16, 123, 162, 0, 31, 42, 180, 0, 39, 27]
abbrev dktX4_castle_3 : List UInt8 := dkwX4_castle_3 ++ dktX4_castle_4
def dkwX4_castle_2 : List UInt8 := [162, 0, 19, 42, 180, 0, 26, 16, 34, 27, 96, 27, 79, 132, 1, 1, 167, 255, 237, 42, 182, 1, 17]
abbrev dktX4_castle_2 : List UInt8 := dkwX4_castle_2 ++ dktX4_castle_3
def dkwX4_castle_1 : List UInt8 := [27, 8, 160, 0, 7, 2, 167, 0, 4, 3, 79, 132, 1, 1, 167, 255, 226, 3, 60, 27, 16, 8]
abbrev dktX4_castle_1 : List UInt8 := dkwX4_castle_1 ++ dktX4_castle_2
def dkwX4_castle_0 : List UInt8 := [42, 16, 6, 181, 0, 156, 3, 60, 27, 16, 10, 162, 0, 30, 42, 180, 0, 26, 27, 27, 7, 159, 0, 8]
abbrev dktX4_castle_0 : List UInt8 := dkwX4_castle_0 ++ dktX4_castle_1
theorem dksX4_castle_0 : cX4_castle.data.toList.drop 0 = dktX4_castle_0 := by decide +kernel
theorem dksX4_castle_1 : cX4_castle.data.toList.drop 24 = dktX4_castle_1 := dk_seg dksX4_castle_0 24 rfl rfl
theorem dksX4_castle_2 : cX4_castle.data.toList.drop 46 = dktX4_castle_2 := dk_seg dksX4_castle_1 22 rfl rfl
theorem dksX4_castle_3 : cX4_castle.data.toList.drop 69 = dktX4_castle_3 := dk_seg dksX4_castle_2 23 rfl rfl
theorem dksX4_castle_4 : cX4_castle.data.toList.drop 93 = dktX4_castle_4 := dk_seg dksX4_castle_3 24 rfl rfl
theorem dksX4_castle_5 : cX4_castle.data.toList.drop 117 = dktX4_castle_5 := dk_seg dksX4_castle_4 24 rfl rfl
theorem dksX4_castle_6 : cX4_castle.data.toList.drop 141 = dktX4_castle_6 := dk_seg dksX4_castle_5 24 rfl rfl
theorem dksX4_castle_7 : cX4_castle.data.toList.drop 164 = dktX4_castle_7 := dk_seg dksX4_castle_6 23 rfl rfl
theorem dX4_castle_0 : decode cX4_castle 0 = .ok (.aload_n 0, 1) := dk_42 (dk_at dksX4_castle_0 0 rfl rfl)
theorem dX4_castle_1 : decode cX4_castle 1 = .ok (.bipush 6, 2) := dk_16 6 (dk_at dksX4_castle_0 1 rfl rfl)
theorem dX4_castle_3 : decode cX4_castle 3 = .ok (.putfield 156, 3) := dk_181 0 156 (dk_at dksX4_castle_0 3 rfl rfl)
theorem dX4_castle_6 : decode cX4_castle 6 = .ok (.iconst 0, 1) := dk_3 (dk_at dksX4_castle_0 6 rfl rfl)
theorem dX4_castle_7 : decode cX4_castle 7 = .ok (.istore_n 1, 1) := dk_60 (dk_at dksX4_castle_0 7 rfl rfl)
theorem dX4_castle_8 : decode cX4_castle 8 = .ok (.iload_n 1, 1) := dk_27 (dk_at dksX4_castle_0 8 rfl rfl)
theorem dX4_castle_9 : decode cX4_castle 9 = .ok (.bipush 10, 2) := dk_16 10 (dk_at dksX4_castle_0 9 rfl rfl)
theorem dX4_castle_11 : decode cX4_castle 11 = .ok (.if_icmp .ge 30, 3) := dk_162 0 30 (dk_at dksX4_castle_0 11 rfl rfl)
theorem dX4_castle_14 : decode cX4_castle 14 = .ok (.aload_n 0, 1) := dk_42 (dk_at dksX4_castle_0 14 rfl rfl)
theorem dX4_castle_15 : decode cX4_castle 15 = .ok (.getfield 26, 3) := dk_180 0 26 (dk_at dksX4_castle_0 15 rfl rfl)
theorem dX4_castle_18 : decode cX4_castle 18 = .ok (.iload_n 1, 1) := dk_27 (dk_at dksX4_castle_0 18 rfl rfl)
theorem dX4_castle_19 : decode cX4_castle 19 = .ok (.iload_n 1, 1) := dk_27 (dk_at dksX4_castle_0 19 rfl rfl)
theorem dX4_castle_20 : decode cX4_castle 20 = .ok (.iconst 4, 1) := dk_7 (dk_at dksX4_castle_0 20 rfl rfl)
theorem dX4_castle_21 : decode cX4_castle 21 = .ok (.if_icmp .eq 8, 3) := dk_159 0 8 (dk_at dksX4_castle_0 21 rfl rfl)
theorem dX4_castle_24 : decode cX4_castle 24 = .ok (.iload_n 1, 1) := dk_27 (dk_at dksX4_castle_1 0 rfl rfl)
theorem dX4_castle_25 : decode cX4_castle 25 = .ok (.iconst 5, 1) := dk_8 (dk_at dksX4_castle_1 1 rfl rfl)
theorem dX4_castle_26 : decode cX4_castle 26 = .ok (.if_icmp .ne 7, 3) := dk_160 0 7 (dk_at dksX4_castle_1 2 rfl rfl)
theorem dX4_castle_29 : decode cX4_castle 29 = .ok (.iconst (-1), 1) := dk_2 (dk_at dksX4_castle_1 5 rfl rfl)
theorem dX4_castle_30 : decode cX4_castle 30 = .ok (.goto 4, 3) := dk_167 0 4 (dk_at dksX4_castle_1 6 rfl rfl)
theorem dX4_castle_33 : decode cX4_castle 33 = .ok (.iconst 0, 1) := dk_3 (dk_at dksX4_castle_1 9 rfl rfl)
theorem dX4_castle_34 : decode cX4_castle 34 = .ok (.iastore, 1) := dk_79 (dk_at dksX4_castle_1 10 rfl rfl)
theorem dX4_castle_35 : decode cX4_castle 35 = .ok (.iinc 1 1, 3) := dk_132 1 1 (dk_at dksX4_castle_1 11 rfl rfl)
theorem dX4_castle_38 : decode cX4_castle 38 = .ok (.goto (-30), 3) := dk_167 255 226 (dk_at dksX4_castle_1 14 rfl rfl)
theorem dX4_castle_41 : decode cX4_castle 41 = .ok (.iconst 0, 1) := dk_3 (dk_at dksX4_castle_1 17 rfl rfl)
theorem dX4_castle_42 : decode cX4_castle 42 = .ok (.istore_n 1, 1) := dk_60 (dk_at dksX4_castle_1 18 rfl rfl)
theorem dX4_castle_43 : decode cX4_castle 43 = .ok (.iload_n 1, 1) := dk_27 (dk_at dksX4_castle_1 19 rfl rfl)
theorem dX4_castle_44 : decode cX4_castle 44 = .ok (.bipush 8, 2) := dk_16 8 (dk_at dksX4_castle_1 20 rfl rfl)
theorem dX4_castle_46 : decode cX4_castle 46 = .ok (.if_icmp .ge 19, 3) := dk_162 0 19 (dk_at dksX4_castle_2 0 rfl rfl)
theorem dX4_castle_49 : decode cX4_castle 49 = .ok (.aload_n 0, 1) := dk_42 (dk_at dksX4_castle_2 3 rfl rfl)
theorem dX4_castle_50 : decode cX4_castle 50 = .ok (.getfield 26, 3) := dk_180 0 26 (dk_at dksX4_castle_2 4 rfl rfl)
theorem dX4_castle_53 : decode cX4_castle 53 = .ok (.bipush 34, 2) := dk_16 34 (dk_at dksX4_castle_2 7 rfl rfl)
theorem dX4_castle_55 : decode cX4_castle 55 = .ok (.iload_n 1, 1) := dk_27 (dk_at dksX4_castle_2 9 rfl rfl)
theorem dX4_castle_56 : decode cX4_castle 56 = .ok (.iadd, 1) := dk_96 (dk_at dksX4_castle_2 10 rfl rfl)
theorem dX4_castle_57 : decode cX4_castle 57 = .ok (.iload_n 1, 1) := dk_27 (dk_at dksX4_castle_2 11 rfl rfl)
theorem dX4_castle_58 : decode cX4_castle 58 = .ok (.iastore, 1) := dk_79 (dk_at dksX4_castle_2 12 rfl rfl)
theorem dX4_castle_59 : decode cX4_castle 59 = .ok (.iinc 1 1, 3) := dk_132 1 1 (dk_at dksX4_castle_2 13 rfl rfl)
theorem dX4_castle_62 : decode cX4_castle 62 = .ok (.goto (-19), 3) := dk_167 255 237 (dk_at dksX4_castle_2 16 rfl rfl)
theorem dX4_castle_65 : decode cX4_castle 65 = .ok (.aload_n 0, 1) := dk_42 (dk_at dksX4_castle_2 19 rfl rfl)
theorem dX4_castle_66 : decode cX4_castle 66 = .ok (.invokevirtual 273, 3) := dk_182 1 17 (dk_at dksX4_castle_2 20 rfl rfl)
theorem dX4_castle_69 : decode cX4_castle 69 = .ok (.ifCond .ne 11, 3) := dk_154 0 11 (dk_at dksX4_castle_3 0 rfl rfl)
theorem dX4_castle_72 : decode cX4_castle 72 = .ok (.bipush (-2), 2) := dk_16 254 (dk_at dksX4_castle_3 3 rfl rfl)
theorem dX4_castle_74 : decode cX4_castle 74 = .ok (.aload_n 0, 1) := dk_42 (dk_at dksX4_castle_3 5 rfl rfl)
theorem dX4_castle_75 : decode cX4_castle 75 = .ok (.getfield 97, 3) := dk_180 0 97 (dk_at dksX4_castle_3 6 rfl rfl)
theorem dX4_castle_78 : decode cX4_castle 78 = .ok (.isub, 1) := dk_100 (dk_at dksX4_castle_3 9 rfl rfl)
theorem dX4_castle_79 : decode cX4_castle 79 = .ok (.ireturn, 1) := dk_172 (dk_at dksX4_castle_3 10 rfl rfl)
theorem dX4_castle_80 : decode cX4_castle 80 = .ok (.iconst 0, 1) := dk_3 (dk_at dksX4_castle_3 11 rfl rfl)
theorem dX4_castle_81 : decode cX4_castle 81 = .ok (.istore_n 1, 1) := dk_60 (dk_at dksX4_castle_3 12 rfl rfl)
theorem dX4_castle_82 : decode cX4_castle 82 = .ok (.iload_n 1, 1) := dk_27 (dk_at dksX4_castle_3 13 rfl rfl)
theorem dX4_castle_83 : decode cX4_castle 83 = .ok (.bipush 123, 2) := dk_16 123 (dk_at dksX4_castle_3 14 rfl rfl)
theorem dX4_castle_85 : decode cX4_castle 85 = .ok (.if_icmp .ge 31, 3) := dk_162 0 31 (dk_at dksX4_castle_3 16 rfl rfl)
theorem dX4_castle_88 : decode cX4_castle 88 = .ok (.aload_n 0, 1) := dk_42 (dk_at dksX4_castle_3 19 rfl rfl)
theorem dX4_castle_89 : decode cX4_castle 89 = .ok (.getfield 39, 3) := dk_180 0 39 (dk_at dksX4_castle_3 20 rfl rfl)
theorem dX4_castle_92 : decode cX4_castle 92 = .ok (.iload_n 1, 1) := dk_27 (dk_at dksX4_castle_3 23 rfl rfl)
theorem dX4_castle_93 : decode cX4_castle 93 = .ok (.iload_n 1, 1) := dk_27 (dk_at dksX4_castle_4 0 rfl rfl)
theorem dX4_castle_94 : decode cX4_castle 94 = .ok (.bipush 84, 2) := dk_16 84 (dk_at dksX4_castle_4 1 rfl rfl)
theorem dX4_castle_96 : decode cX4_castle 96 = .ok (.if_icmp .ge 12, 3) := dk_162 0 12 (dk_at dksX4_castle_4 3 rfl rfl)
theorem dX4_castle_99 : decode cX4_castle 99 = .ok (.aload_n 0, 1) := dk_42 (dk_at dksX4_castle_4 6 rfl rfl)
theorem dX4_castle_100 : decode cX4_castle 100 = .ok (.getfield 26, 3) := dk_180 0 26 (dk_at dksX4_castle_4 7 rfl rfl)
theorem dX4_castle_103 : decode cX4_castle 103 = .ok (.iload_n 1, 1) := dk_27 (dk_at dksX4_castle_4 10 rfl rfl)
theorem dX4_castle_104 : decode cX4_castle 104 = .ok (.iaload, 1) := dk_46 (dk_at dksX4_castle_4 11 rfl rfl)
theorem dX4_castle_105 : decode cX4_castle 105 = .ok (.goto 4, 3) := dk_167 0 4 (dk_at dksX4_castle_4 12 rfl rfl)
theorem dX4_castle_108 : decode cX4_castle 108 = .ok (.iconst 0, 1) := dk_3 (dk_at dksX4_castle_4 15 rfl rfl)
theorem dX4_castle_109 : decode cX4_castle 109 = .ok (.iastore, 1) := dk_79 (dk_at dksX4_castle_4 16 rfl rfl)
theorem dX4_castle_110 : decode cX4_castle 110 = .ok (.iinc 1 1, 3) := dk_132 1 1 (dk_at dksX4_castle_4 17 rfl rfl)
theorem dX4_castle_113 : decode cX4_castle 113 = .ok (.goto (-31), 3) := dk_167 255 225 (dk_at dksX4_castle_4 20 rfl rfl)
theorem dX4_castle_116 : decode cX4_castle 116 = .ok (.aload_n 0, 1) := dk_42 (dk_at dksX4_castle_4 23 rfl rfl)
theorem dX4_castle_117 : decode cX4_castle 117 = .ok (.invokevirtual 276, 3) := dk_182 1 20 (dk_at dksX4_castle_5 0 rfl rfl)
theorem dX4_castle_120 : decode cX4_castle 120 = .ok (.iconst 0, 1) := dk_3 (dk_at dksX4_castle_5 3 rfl rfl)
theorem dX4_castle_121 : decode cX4_castle 121 = .ok (.istore_n 1, 1) := dk_60 (dk_at dksX4_castle_5 4 rfl rfl)
theorem dX4_castle_122 : decode cX4_castle 122 = .ok (.iload_n 1, 1) := dk_27 (dk_at dksX4_castle_5 5 rfl rfl)
theorem dX4_castle_123 : decode cX4_castle 123 = .ok (.aload_n 0, 1) := dk_42 (dk_at dksX4_castle_5 6 rfl rfl)
theorem dX4_castle_124 : decode cX4_castle 124 = .ok (.getfield 39, 3) := dk_180 0 39 (dk_at dksX4_castle_5 7 rfl rfl)
theorem dX4_castle_127 : decode cX4_castle 127 = .ok (.iconst 2, 1) := dk_5 (dk_at dksX4_castle_5 10 rfl rfl)
theorem dX4_castle_128 : decode cX4_castle 128 = .ok (.iaload, 1) := dk_46 (dk_at dksX4_castle_5 11 rfl rfl)
theorem dX4_castle_129 : decode cX4_castle 129 = .ok (.if_icmp .ge 45, 3) := dk_162 0 45 (dk_at dksX4_castle_5 12 rfl rfl)
theorem dX4_castle_132 : decode cX4_castle 132 = .ok (.aload_n 0, 1) := dk_42 (dk_at dksX4_castle_5 15 rfl rfl)
theorem dX4_castle_133 : decode cX4_castle 133 = .ok (.getfield 39, 3) := dk_180 0 39 (dk_at dksX4_castle_5 16 rfl rfl)
theorem dX4_castle_136 : decode cX4_castle 136 = .ok (.bipush 115, 2) := dk_16 115 (dk_at dksX4_castle_5 19 rfl rfl)
theorem dX4_castle_138 : decode cX4_castle 138 = .ok (.iconst 2, 1) := dk_5 (dk_at dksX4_castle_5 21 rfl rfl)
theorem dX4_castle_139 : decode cX4_castle 139 = .ok (.iload_n 1, 1) := dk_27 (dk_at dksX4_castle_5 22 rfl rfl)
theorem dX4_castle_140 : decode cX4_castle 140 = .ok (.imul, 1) := dk_104 (dk_at dksX4_castle_5 23 rfl rfl)
theorem dX4_castle_141 : decode cX4_castle 141 = .ok (.iadd, 1) := dk_96 (dk_at dksX4_castle_6 0 rfl rfl)
theorem dX4_castle_142 : decode cX4_castle 142 = .ok (.aload_n 0, 1) := dk_42 (dk_at dksX4_castle_6 1 rfl rfl)
theorem dX4_castle_143 : decode cX4_castle 143 = .ok (.iload_n 1, 1) := dk_27 (dk_at dksX4_castle_6 2 rfl rfl)
theorem dX4_castle_144 : decode cX4_castle 144 = .ok (.iconst 0, 1) := dk_3 (dk_at dksX4_castle_6 3 rfl rfl)
theorem dX4_castle_145 : decode cX4_castle 145 = .ok (.invokevirtual 279, 3) := dk_182 1 23 (dk_at dksX4_castle_6 4 rfl rfl)
theorem dX4_castle_148 : decode cX4_castle 148 = .ok (.iastore, 1) := dk_79 (dk_at dksX4_castle_6 7 rfl rfl)
theorem dX4_castle_149 : decode cX4_castle 149 = .ok (.aload_n 0, 1) := dk_42 (dk_at dksX4_castle_6 8 rfl rfl)
theorem dX4_castle_150 : decode cX4_castle 150 = .ok (.getfield 39, 3) := dk_180 0 39 (dk_at dksX4_castle_6 9 rfl rfl)
theorem dX4_castle_153 : decode cX4_castle 153 = .ok (.bipush 115, 2) := dk_16 115 (dk_at dksX4_castle_6 12 rfl rfl)
theorem dX4_castle_155 : decode cX4_castle 155 = .ok (.iconst 2, 1) := dk_5 (dk_at dksX4_castle_6 14 rfl rfl)
theorem dX4_castle_156 : decode cX4_castle 156 = .ok (.iload_n 1, 1) := dk_27 (dk_at dksX4_castle_6 15 rfl rfl)
theorem dX4_castle_157 : decode cX4_castle 157 = .ok (.imul, 1) := dk_104 (dk_at dksX4_castle_6 16 rfl rfl)
theorem dX4_castle_158 : decode cX4_castle 158 = .ok (.iadd, 1) := dk_96 (dk_at dksX4_castle_6 17 rfl rfl)
theorem dX4_castle_159 : decode cX4_castle 159 = .ok (.iconst 1, 1) := dk_4 (dk_at dksX4_castle_6 18 rfl rfl)
theorem dX4_castle_160 : decode cX4_castle 160 = .ok (.iadd, 1) := dk_96 (dk_at dksX4_castle_6 19 rfl rfl)
theorem dX4_castle_161 : decode cX4_castle 161 = .ok (.aload_n 0, 1) := dk_42 (dk_at dksX4_castle_6 20 rfl rfl)
theorem dX4_castle_162 : decode cX4_castle 162 = .ok (.iload_n 1, 1) := dk_27 (dk_at dksX4_castle_6 21 rfl rfl)
theorem dX4_castle_163 : decode cX4_castle 163 = .ok (.iconst 1, 1) := dk_4 (dk_at dksX4_castle_6 22 rfl rfl)
theorem dX4_castle_164 : decode cX4_castle 164 = .ok (.invokevirtual 279, 3) := dk_182 1 23 (dk_at dksX4_castle_7 0 rfl rfl)
theorem dX4_castle_167 : decode cX4_castle 167 = .ok (.iastore, 1) := dk_79 (dk_at dksX4_castle_7 3 rfl rfl)
theorem dX4_castle_168 : decode cX4_castle 168 = .ok (.iinc 1 1, 3) := dk_132 1 1 (dk_at dksX4_castle_7 4 rfl rfl)
theorem dX4_castle_171 : decode cX4_castle 171 = .ok (.goto (-49), 3) := dk_167 255 207 (dk_at dksX4_castle_7 7 rfl rfl)
theorem dX4_castle_174 : decode cX4_castle 174 = .ok (.aload_n 0, 1) := dk_42 (dk_at dksX4_castle_7 10 rfl rfl)
theorem dX4_castle_175 : decode cX4_castle 175 = .ok (.iconst 0, 1) := dk_3 (dk_at dksX4_castle_7 11 rfl rfl)
theorem dX4_castle_176 : decode cX4_castle 176 = .ok (.putfield 283, 3) := dk_181 1 27 (dk_at dksX4_castle_7 12 rfl rfl)
theorem dX4_castle_179 : decode cX4_castle 179 = .ok (.aload_n 0, 1) := dk_42 (dk_at dksX4_castle_7 15 rfl rfl)
theorem dX4_castle_180 : decode cX4_castle 180 = .ok (.getfield 39, 3) := dk_180 0 39 (dk_at dksX4_castle_7 16 rfl rfl)
theorem dX4_castle_183 : decode cX4_castle 183 = .ok (.iconst 2, 1) := dk_5 (dk_at dksX4_castle_7 19 rfl rfl)
theorem dX4_castle_184 : decode cX4_castle 184 = .ok (.iaload, 1) := dk_46 (dk_at dksX4_castle_7 20 rfl rfl)
theorem dX4_castle_185 : decode cX4_castle 185 = .ok (.ireturn, 1) := dk_172 (dk_at dksX4_castle_7 21 rfl rfl)