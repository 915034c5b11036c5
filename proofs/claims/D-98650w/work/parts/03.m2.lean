set_option maxRecDepth 100000
abbrev cX4_turnsDoors : ByteArray := prog_20_method_41_code
def yX4_turnsDoors : MethodName := ⟨RX4, "turnsDoors", "()V"⟩
def dkwX4_turnsDoors_4 : List UInt8 := [180, 0, 39, 28, 21, 4, 79, 42, 180, 0, 39, 28, 4, 96, 29, 79, 132, 1, 1, 167, 255, 149, 177]
abbrev dktX4_turnsDoors_4 : List UInt8 := dkwX4_turnsDoors_4 ++ []
def dkwX4_turnsDoors_3 : List UInt8 := [180, 0, 39, 16, 34, 21, 4, 96, 46, 160, 0, 12, 29, 21, 4, 162, 0, 6, 167, 0, 20, 42]
abbrev dktX4_turnsDoors_3 : List UInt8 := dkwX4_turnsDoors_3 ++ dktX4_turnsDoors_4
def dkwX4_turnsDoors_2 : List UInt8 := [180, 0, 39, 16, 34, 21, 4, 96, 46, 161, 0, 51, 42, 180, 0, 39, 16, 34, 29, 96, 46, 42]
abbrev dktX4_turnsDoors_2 : List UInt8 := dkwX4_turnsDoors_2 ++ dktX4_turnsDoors_3
def dkwX4_turnsDoors_1 : List UInt8 := [46, 62, 42, 180, 0, 39, 28, 4, 96, 46, 54, 4, 42, 180, 0, 39, 16, 34, 29, 96, 46, 42]
abbrev dktX4_turnsDoors_1 : List UInt8 := dkwX4_turnsDoors_1 ++ dktX4_turnsDoors_2
def dkwX4_turnsDoors_0 : List UInt8 := [3, 60, 27, 42, 180, 0, 39, 4, 46, 162, 0, 103, 16, 42, 6, 27, 104, 96, 61, 42, 180, 0, 39, 28]
abbrev dktX4_turnsDoors_0 : List UInt8 := dkwX4_turnsDoors_0 ++ dktX4_turnsDoors_1
theorem dksX4_turnsDoors_0 : cX4_turnsDoors.data.toList.drop 0 = dktX4_turnsDoors_0 := by decide +kernel
theorem dksX4_turnsDoors_1 : cX4_turnsDoors.data.toList.drop 24 = dktX4_turnsDoors_1 := dk_seg dksX4_turnsDoors_0 24 rfl rfl
theorem dksX4_turnsDoors_2 : cX4_turnsDoors.data.toList.drop 46 = dktX4_turnsDoors_2 := dk_seg dksX4_turnsDoors_1 22 rfl rfl
theorem dksX4_turnsDoors_3 : cX4_turnsDoors.data.toList.drop 68 = dktX4_turnsDoors_3 := dk_seg dksX4_turnsDoors_2 22 rfl rfl
theorem dksX4_turnsDoors_4 : cX4_turnsDoors.data.toList.drop 90 = dktX4_turnsDoors_4 := dk_seg dksX4_turnsDoors_3 22 rfl rfl
theorem dX4_turnsDoors_0 : decode cX4_turnsDoors 0 = .ok (.iconst 0, 1) := dk_3 (dk_at dksX4_turnsDoors_0 0 rfl rfl)
theorem dX4_turnsDoors_1 : decode cX4_turnsDoors 1 = .ok (.istore_n 1, 1) := dk_60 (dk_at dksX4_turnsDoors_0 1 rfl rfl)
theorem dX4_turnsDoors_2 : decode cX4_turnsDoors 2 = .ok (.iload_n 1, 1) := dk_27 (dk_at dksX4_turnsDoors_0 2 rfl rfl)
theorem dX4_turnsDoors_3 : decode cX4_turnsDoors 3 = .ok (.aload_n 0, 1) := dk_42 (dk_at dksX4_turnsDoors_0 3 rfl rfl)
theorem dX4_turnsDoors_4 : decode cX4_turnsDoors 4 = .ok (.getfield 39, 3) := dk_180 0 39 (dk_at dksX4_turnsDoors_0 4 rfl rfl)
theorem dX4_turnsDoors_7 : decode cX4_turnsDoors 7 = .ok (.iconst 1, 1) := dk_4 (dk_at dksX4_turnsDoors_0 7 rfl rfl)
theorem dX4_turnsDoors_8 : decode cX4_turnsDoors 8 = .ok (.iaload, 1) := dk_46 (dk_at dksX4_turnsDoors_0 8 rfl rfl)
theorem dX4_turnsDoors_9 : decode cX4_turnsDoors 9 = .ok (.if_icmp .ge 103, 3) := dk_162 0 103 (dk_at dksX4_turnsDoors_0 9 rfl rfl)
theorem dX4_turnsDoors_12 : decode cX4_turnsDoors 12 = .ok (.bipush 42, 2) := dk_16 42 (dk_at dksX4_turnsDoors_0 12 rfl rfl)
theorem dX4_turnsDoors_14 : decode cX4_turnsDoors 14 = .ok (.iconst 3, 1) := dk_6 (dk_at dksX4_turnsDoors_0 14 rfl rfl)
theorem dX4_turnsDoors_15 : decode cX4_turnsDoors 15 = .ok (.iload_n 1, 1) := dk_27 (dk_at dksX4_turnsDoors_0 15 rfl rfl)
theorem dX4_turnsDoors_16 : decode cX4_turnsDoors 16 = .ok (.imul, 1) := dk_104 (dk_at dksX4_turnsDoors_0 16 rfl rfl)
theorem dX4_turnsDoors_17 : decode cX4_turnsDoors 17 = .ok (.iadd, 1) := dk_96 (dk_at dksX4_turnsDoors_0 17 rfl rfl)
theorem dX4_turnsDoors_18 : decode cX4_turnsDoors 18 = .ok (.istore_n 2, 1) := dk_61 (dk_at dksX4_turnsDoors_0 18 rfl rfl)
theorem dX4_turnsDoors_19 : decode cX4_turnsDoors 19 = .ok (.aload_n 0, 1) := dk_42 (dk_at dksX4_turnsDoors_0 19 rfl rfl)
theorem dX4_turnsDoors_20 : decode cX4_turnsDoors 20 = .ok (.getfield 39, 3) := dk_180 0 39 (dk_at dksX4_turnsDoors_0 20 rfl rfl)
theorem dX4_turnsDoors_23 : decode cX4_turnsDoors 23 = .ok (.iload_n 2, 1) := dk_28 (dk_at dksX4_turnsDoors_0 23 rfl rfl)
theorem dX4_turnsDoors_24 : decode cX4_turnsDoors 24 = .ok (.iaload, 1) := dk_46 (dk_at dksX4_turnsDoors_1 0 rfl rfl)
theorem dX4_turnsDoors_25 : decode cX4_turnsDoors 25 = .ok (.istore_n 3, 1) := dk_62 (dk_at dksX4_turnsDoors_1 1 rfl rfl)
theorem dX4_turnsDoors_26 : decode cX4_turnsDoors 26 = .ok (.aload_n 0, 1) := dk_42 (dk_at dksX4_turnsDoors_1 2 rfl rfl)
theorem dX4_turnsDoors_27 : decode cX4_turnsDoors 27 = .ok (.getfield 39, 3) := dk_180 0 39 (dk_at dksX4_turnsDoors_1 3 rfl rfl)
theorem dX4_turnsDoors_30 : decode cX4_turnsDoors 30 = .ok (.iload_n 2, 1) := dk_28 (dk_at dksX4_turnsDoors_1 6 rfl rfl)
theorem dX4_turnsDoors_31 : decode cX4_turnsDoors 31 = .ok (.iconst 1, 1) := dk_4 (dk_at dksX4_turnsDoors_1 7 rfl rfl)
theorem dX4_turnsDoors_32 : decode cX4_turnsDoors 32 = .ok (.iadd, 1) := dk_96 (dk_at dksX4_turnsDoors_1 8 rfl rfl)
theorem dX4_turnsDoors_33 : decode cX4_turnsDoors 33 = .ok (.iaload, 1) := dk_46 (dk_at dksX4_turnsDoors_1 9 rfl rfl)
theorem dX4_turnsDoors_34 : decode cX4_turnsDoors 34 = .ok (.istore 4, 2) := dk_54 4 (dk_at dksX4_turnsDoors_1 10 rfl rfl)
theorem dX4_turnsDoors_36 : decode cX4_turnsDoors 36 = .ok (.aload_n 0, 1) := dk_42 (dk_at dksX4_turnsDoors_1 12 rfl rfl)
theorem dX4_turnsDoors_37 : decode cX4_turnsDoors 37 = .ok (.getfield 39, 3) := dk_180 0 39 (dk_at dksX4_turnsDoors_1 13 rfl rfl)
theorem dX4_turnsDoors_40 : decode cX4_turnsDoors 40 = .ok (.bipush 34, 2) := dk_16 34 (dk_at dksX4_turnsDoors_1 16 rfl rfl)
theorem dX4_turnsDoors_42 : decode cX4_turnsDoors 42 = .ok (.iload_n 3, 1) := dk_29 (dk_at dksX4_turnsDoors_1 18 rfl rfl)
theorem dX4_turnsDoors_43 : decode cX4_turnsDoors 43 = .ok (.iadd, 1) := dk_96 (dk_at dksX4_turnsDoors_1 19 rfl rfl)
theorem dX4_turnsDoors_44 : decode cX4_turnsDoors 44 = .ok (.iaload, 1) := dk_46 (dk_at dksX4_turnsDoors_1 20 rfl rfl)
theorem dX4_turnsDoors_45 : decode cX4_turnsDoors 45 = .ok (.aload_n 0, 1) := dk_42 (dk_at dksX4_turnsDoors_1 21 rfl rfl)
theorem dX4_turnsDoors_46 : decode cX4_turnsDoors 46 = .ok (.getfield 39, 3) := dk_180 0 39 (dk_at dksX4_turnsDoors_2 0 rfl rfl)
theorem dX4_turnsDoors_49 : decode cX4_turnsDoors 49 = .ok (.bipush 34, 2) := dk_16 34 (dk_at dksX4_turnsDoors_2 3 rfl rfl)
theorem dX4_turnsDoors_51 : decode cX4_turnsDoors 51 = .ok (.iload 4, 2) := dk_21 4 (dk_at dksX4_turnsDoors_2 5 rfl rfl)
theorem dX4_turnsDoors_53 : decode cX4_turnsDoors 53 = .ok (.iadd, 1) := dk_96 (dk_at dksX4_turnsDoors_2 7 rfl rfl)
theorem dX4_turnsDoors_54 : decode cX4_turnsDoors 54 = .ok (.iaload, 1) := dk_46 (dk_at dksX4_turnsDoors_2 8 rfl rfl)
theorem dX4_turnsDoors_55 : decode cX4_turnsDoors 55 = .ok (.if_icmp .lt 51, 3) := dk_161 0 51 (dk_at dksX4_turnsDoors_2 9 rfl rfl)
theorem dX4_turnsDoors_58 : decode cX4_turnsDoors 58 = .ok (.aload_n 0, 1) := dk_42 (dk_at dksX4_turnsDoors_2 12 rfl rfl)
theorem dX4_turnsDoors_59 : decode cX4_turnsDoors 59 = .ok (.getfield 39, 3) := dk_180 0 39 (dk_at dksX4_turnsDoors_2 13 rfl rfl)
theorem dX4_turnsDoors_62 : decode cX4_turnsDoors 62 = .ok (.bipush 34, 2) := dk_16 34 (dk_at dksX4_turnsDoors_2 16 rfl rfl)
theorem dX4_turnsDoors_64 : decode cX4_turnsDoors 64 = .ok (.iload_n 3, 1) := dk_29 (dk_at dksX4_turnsDoors_2 18 rfl rfl)
theorem dX4_turnsDoors_65 : decode cX4_turnsDoors 65 = .ok (.iadd, 1) := dk_96 (dk_at dksX4_turnsDoors_2 19 rfl rfl)
theorem dX4_turnsDoors_66 : decode cX4_turnsDoors 66 = .ok (.iaload, 1) := dk_46 (dk_at dksX4_turnsDoors_2 20 rfl rfl)
theorem dX4_turnsDoors_67 : decode cX4_turnsDoors 67 = .ok (.aload_n 0, 1) := dk_42 (dk_at dksX4_turnsDoors_2 21 rfl rfl)
theorem dX4_turnsDoors_68 : decode cX4_turnsDoors 68 = .ok (.getfield 39, 3) := dk_180 0 39 (dk_at dksX4_turnsDoors_3 0 rfl rfl)
theorem dX4_turnsDoors_71 : decode cX4_turnsDoors 71 = .ok (.bipush 34, 2) := dk_16 34 (dk_at dksX4_turnsDoors_3 3 rfl rfl)
theorem dX4_turnsDoors_73 : decode cX4_turnsDoors 73 = .ok (.iload 4, 2) := dk_21 4 (dk_at dksX4_turnsDoors_3 5 rfl rfl)
theorem dX4_turnsDoors_75 : decode cX4_turnsDoors 75 = .ok (.iadd, 1) := dk_96 (dk_at dksX4_turnsDoors_3 7 rfl rfl)
theorem dX4_turnsDoors_76 : decode cX4_turnsDoors 76 = .ok (.iaload, 1) := dk_46 (dk_at dksX4_turnsDoors_3 8 rfl rfl)
theorem dX4_turnsDoors_77 : decode cX4_turnsDoors 77 = .ok (.if_icmp .ne 12, 3) := dk_160 0 12 (dk_at dksX4_turnsDoors_3 9 rfl rfl)
theorem dX4_turnsDoors_80 : decode cX4_turnsDoors 80 = .ok (.iload_n 3, 1) := dk_29 (dk_at dksX4_turnsDoors_3 12 rfl rfl)
theorem dX4_turnsDoors_81 : decode cX4_turnsDoors 81 = .ok (.iload 4, 2) := dk_21 4 (dk_at dksX4_turnsDoors_3 13 rfl rfl)
theorem dX4_turnsDoors_83 : decode cX4_turnsDoors 83 = .ok (.if_icmp .ge 6, 3) := dk_162 0 6 (dk_at dksX4_turnsDoors_3 15 rfl rfl)
theorem dX4_turnsDoors_86 : decode cX4_turnsDoors 86 = .ok (.goto 20, 3) := dk_167 0 20 (dk_at dksX4_turnsDoors_3 18 rfl rfl)
theorem dX4_turnsDoors_89 : decode cX4_turnsDoors 89 = .ok (.aload_n 0, 1) := dk_42 (dk_at dksX4_turnsDoors_3 21 rfl rfl)
theorem dX4_turnsDoors_90 : decode cX4_turnsDoors 90 = .ok (.getfield 39, 3) := dk_180 0 39 (dk_at dksX4_turnsDoors_4 0 rfl rfl)
theorem dX4_turnsDoors_93 : decode cX4_turnsDoors 93 = .ok (.iload_n 2, 1) := dk_28 (dk_at dksX4_turnsDoors_4 3 rfl rfl)
theorem dX4_turnsDoors_94 : decode cX4_turnsDoors 94 = .ok (.iload 4, 2) := dk_21 4 (dk_at dksX4_turnsDoors_4 4 rfl rfl)
theorem dX4_turnsDoors_96 : decode cX4_turnsDoors 96 = .ok (.iastore, 1) := dk_79 (dk_at dksX4_turnsDoors_4 6 rfl rfl)
theorem dX4_turnsDoors_97 : decode cX4_turnsDoors 97 = .ok (.aload_n 0, 1) := dk_42 (dk_at dksX4_turnsDoors_4 7 rfl rfl)
theorem dX4_turnsDoors_98 : decode cX4_turnsDoors 98 = .ok (.getfield 39, 3) := dk_180 0 39 (dk_at dksX4_turnsDoors_4 8 rfl rfl)
theorem dX4_turnsDoors_101 : decode cX4_turnsDoors 101 = .ok (.iload_n 2, 1) := dk_28 (dk_at dksX4_turnsDoors_4 11 rfl rfl)
theorem dX4_turnsDoors_102 : decode cX4_turnsDoors 102 = .ok (.iconst 1, 1) := dk_4 (dk_at dksX4_turnsDoors_4 12 rfl rfl)
theorem dX4_turnsDoors_103 : decode cX4_turnsDoors 103 = .ok (.iadd, 1) := dk_96 (dk_at dksX4_turnsDoors_4 13 rfl rfl)
theorem dX4_turnsDoors_104 : decode cX4_turnsDoors 104 = .ok (.iload_n 3, 1) := dk_29 (dk_at dksX4_turnsDoors_4 14 rfl rfl)
theorem dX4_turnsDoors_105 : decode cX4_turnsDoors 105 = .ok (.iastore, 1) := dk_79 (dk_at dksX4_turnsDoors_4 15 rfl rfl)
theorem dX4_turnsDoors_106 : decode cX4_turnsDoors 106 = .ok (.iinc 1 1, 3) := dk_132 1 1 (dk_at dksX4_turnsDoors_4 16 rfl rfl)
theorem dX4_turnsDoors_109 : decode cX4_turnsDoors 109 = .ok (.goto (-107), 3) := dk_167 255 149 (dk_at dksX4_turnsDoors_4 19 rfl rfl)
theorem dX4_turnsDoors_112 : decode cX4_turnsDoors 112 = .ok (.return_, 1) := dk_177 (dk_at dksX4_turnsDoors_4 22 rfl rfl)
abbrev cX4_personOf : ByteArray := prog_20_method_52_code
def yX4_personOf : MethodName := ⟨RX4, "personOf", "(II)I"⟩
def dkwX4_personOf_0 : List UInt8 := [42, 180, 0, 39, 16, 10, 16, 6, 27, 104, 96, 28, 96, 46, 172]
abbrev dktX4_personOf_0 : List UInt8 := dkwX4_personOf_0 ++ []
theorem dksX4_personOf_0 : cX4_personOf.data.toList.drop 0 = dktX4_personOf_0 := by decide +kernel
theorem dX4_personOf_0 : decode cX4_personOf 0 = .ok (.aload_n 0, 1) := dk_42 (dk_at dksX4_personOf_0 0 rfl rfl)
theorem dX4_personOf_1 : decode cX4_personOf 1 = .ok (.getfield 39, 3) := dk_180 0 39 (dk_at dksX4_personOf_0 1 rfl rfl)
theorem dX4_personOf_4 : decode cX4_personOf 4 = .ok (.bipush 10, 2) := dk_16 10 (dk_at dksX4_personOf_0 4 rfl rfl)
theorem dX4_personOf_6 : decode cX4_personOf 6 = .ok (.bipush 6, 2) := dk_16 6 (dk_at dksX4_personOf_0 6 rfl rfl)
theorem dX4_personOf_8 : decode cX4_personOf 8 = .ok (.iload_n 1, 1) := dk_27 (dk_at dksX4_personOf_0 8 rfl rfl)
theorem dX4_personOf_9 : decode cX4_personOf 9 = .ok (.imul, 1) := dk_104 (dk_at dksX4_personOf_0 9 rfl rfl)
theorem dX4_personOf_10 : decode cX4_personOf 10 = .ok (.iadd, 1) := dk_96 (dk_at dksX4_personOf_0 10 rfl rfl)
theorem dX4_personOf_11 : decode cX4_personOf 11 = .ok (.iload_n 2, 1) := dk_28 (dk_at dksX4_personOf_0 11 rfl rfl)
theorem dX4_personOf_12 : decode cX4_personOf 12 = .ok (.iadd, 1) := dk_96 (dk_at dksX4_personOf_0 12 rfl rfl)
theorem dX4_personOf_13 : decode cX4_personOf 13 = .ok (.iaload, 1) := dk_46 (dk_at dksX4_personOf_0 13 rfl rfl)
theorem dX4_personOf_14 : decode cX4_personOf 14 = .ok (.ireturn, 1) := dk_172 (dk_at dksX4_personOf_0 14 rfl rfl)
abbrev cX4_force : ByteArray := prog_20_method_64_code
def yX4_force : MethodName := ⟨RX4, "force", "(I)I"⟩
def dkwX4_force_1 : List UInt8 := [181, 0, 42, 28, 172]
abbrev dktX4_force_1 : List UInt8 := dkwX4_force_1 ++ []
def dkwX4_force_0 : List UInt8 := [27, 2, 159, 0, 14, 42, 27, 182, 1, 69, 154, 0, 6, 16, 254, 172, 42, 180, 0, 42, 61, 42, 27]
abbrev dktX4_force_0 : List UInt8 := dkwX4_force_0 ++ dktX4_force_1
theorem dksX4_force_0 : cX4_force.data.toList.drop 0 = dktX4_force_0 := by decide +kernel
theorem dksX4_force_1 : cX4_force.data.toList.drop 23 = dktX4_force_1 := dk_seg dksX4_force_0 23 rfl rfl
theorem dX4_force_0 : decode cX4_force 0 = .ok (.iload_n 1, 1) := dk_27 (dk_at dksX4_force_0 0 rfl rfl)
theorem dX4_force_1 : decode cX4_force 1 = .ok (.iconst (-1), 1) := dk_2 (dk_at dksX4_force_0 1 rfl rfl)
theorem dX4_force_2 : decode cX4_force 2 = .ok (.if_icmp .eq 14, 3) := dk_159 0 14 (dk_at dksX4_force_0 2 rfl rfl)
theorem dX4_force_5 : decode cX4_force 5 = .ok (.aload_n 0, 1) := dk_42 (dk_at dksX4_force_0 5 rfl rfl)
theorem dX4_force_6 : decode cX4_force 6 = .ok (.iload_n 1, 1) := dk_27 (dk_at dksX4_force_0 6 rfl rfl)
theorem dX4_force_7 : decode cX4_force 7 = .ok (.invokevirtual 325, 3) := dk_182 1 69 (dk_at dksX4_force_0 7 rfl rfl)
theorem dX4_force_10 : decode cX4_force 10 = .ok (.ifCond .ne 6, 3) := dk_154 0 6 (dk_at dksX4_force_0 10 rfl rfl)
theorem dX4_force_13 : decode cX4_force 13 = .ok (.bipush (-2), 2) := dk_16 254 (dk_at dksX4_force_0 13 rfl rfl)
theorem dX4_force_15 : decode cX4_force 15 = .ok (.ireturn, 1) := dk_172 (dk_at dksX4_force_0 15 rfl rfl)
theorem dX4_force_16 : decode cX4_force 16 = .ok (.aload_n 0, 1) := dk_42 (dk_at dksX4_force_0 16 rfl rfl)
theorem dX4_force_17 : decode cX4_force 17 = .ok (.getfield 42, 3) := dk_180 0 42 (dk_at dksX4_force_0 17 rfl rfl)
theorem dX4_force_20 : decode cX4_force 20 = .ok (.istore_n 2, 1) := dk_61 (dk_at dksX4_force_0 20 rfl rfl)
theorem dX4_force_21 : decode cX4_force 21 = .ok (.aload_n 0, 1) := dk_42 (dk_at dksX4_force_0 21 rfl rfl)
theorem dX4_force_22 : decode cX4_force 22 = .ok (.iload_n 1, 1) := dk_27 (dk_at dksX4_force_0 22 rfl rfl)
theorem dX4_force_23 : decode cX4_force 23 = .ok (.putfield 42, 3) := dk_181 0 42 (dk_at dksX4_force_1 0 rfl rfl)
theorem dX4_force_26 : decode cX4_force 26 = .ok (.iload_n 2, 1) := dk_28 (dk_at dksX4_force_1 3 rfl rfl)
theorem dX4_force_27 : decode cX4_force 27 = .ok (.ireturn, 1) := dk_172 (dk_at dksX4_force_1 4 rfl rfl)
abbrev cX4_isRule : ByteArray := prog_20_method_43_code
def yX4_isRule : MethodName := ⟨RX4, "isRule", "(I)Z"⟩
def dkwX4_isRule_0 : List UInt8 := [27, 155, 0, 15, 27, 42, 180, 1, 14, 162, 0, 7, 4, 167, 0, 4, 3, 172]
abbrev dktX4_isRule_0 : List UInt8 := dkwX4_isRule_0 ++ []
theorem dksX4_isRule_0 : cX4_isRule.data.toList.drop 0 = dktX4_isRule_0 := by decide +kernel
theorem dX4_isRule_0 : decode cX4_isRule 0 = .ok (.iload_n 1, 1) := dk_27 (dk_at dksX4_isRule_0 0 rfl rfl)
theorem dX4_isRule_1 : decode cX4_isRule 1 = .ok (.ifCond .lt 15, 3) := dk_155 0 15 (dk_at dksX4_isRule_0 1 rfl rfl)
theorem dX4_isRule_4 : decode cX4_isRule 4 = .ok (.iload_n 1, 1) := dk_27 (dk_at dksX4_isRule_0 4 rfl rfl)
theorem dX4_isRule_5 : decode cX4_isRule 5 = .ok (.aload_n 0, 1) := dk_42 (dk_at dksX4_isRule_0 5 rfl rfl)
theorem dX4_isRule_6 : decode cX4_isRule 6 = .ok (.getfield 270, 3) := dk_180 1 14 (dk_at dksX4_isRule_0 6 rfl rfl)
theorem dX4_isRule_9 : decode cX4_isRule 9 = .ok (.if_icmp .ge 7, 3) := dk_162 0 7 (dk_at dksX4_isRule_0 9 rfl rfl)
theorem dX4_isRule_12 : decode cX4_isRule 12 = .ok (.iconst 1, 1) := dk_4 (dk_at dksX4_isRule_0 12 rfl rfl)
theorem dX4_isRule_13 : decode cX4_isRule 13 = .ok (.goto 4, 3) := dk_167 0 4 (dk_at dksX4_isRule_0 13 rfl rfl)
theorem dX4_isRule_16 : decode cX4_isRule 16 = .ok (.iconst 0, 1) := dk_3 (dk_at dksX4_isRule_0 16 rfl rfl)
theorem dX4_isRule_17 : decode cX4_isRule 17 = .ok (.ireturn, 1) := dk_172 (dk_at dksX4_isRule_0 17 rfl rfl)
abbrev cX4_person : ByteArray := prog_20_method_65_code
def yX4_person : MethodName := ⟨RX4, "person", "(II)I"⟩
def dkwX4_person_3 : List UInt8 := [172]
abbrev dktX4_person_3 : List UInt8 := dkwX4_person_3 ++ []
def dkwX4_person_2 : List UInt8 := [167, 0, 24, 28, 7, 160, 0, 11, 42, 27, 182, 1, 77, 167, 0, 11, 42, 27, 28, 5, 100, 182, 1, 23]
abbrev dktX4_person_2 : List UInt8 := dkwX4_person_2 ++ dktX4_person_3
def dkwX4_person_1 : List UInt8 := [6, 162, 0, 12, 42, 27, 28, 182, 1, 23, 167, 0, 37, 28, 6, 160, 0, 11, 42, 27, 182, 1, 63]
abbrev dktX4_person_1 : List UInt8 := dkwX4_person_1 ++ dktX4_person_2
def dkwX4_person_0 : List UInt8 := [42, 27, 182, 1, 72, 153, 0, 15, 28, 133, 9, 20, 1, 75, 184, 0, 128, 154, 0, 6, 16, 254, 172, 28]
abbrev dktX4_person_0 : List UInt8 := dkwX4_person_0 ++ dktX4_person_1
theorem dksX4_person_0 : cX4_person.data.toList.drop 0 = dktX4_person_0 := by decide +kernel
theorem dksX4_person_1 : cX4_person.data.toList.drop 24 = dktX4_person_1 := dk_seg dksX4_person_0 24 rfl rfl
theorem dksX4_person_2 : cX4_person.data.toList.drop 47 = dktX4_person_2 := dk_seg dksX4_person_1 23 rfl rfl
theorem dksX4_person_3 : cX4_person.data.toList.drop 71 = dktX4_person_3 := dk_seg dksX4_person_2 24 rfl rfl
theorem dX4_person_0 : decode cX4_person 0 = .ok (.aload_n 0, 1) := dk_42 (dk_at dksX4_person_0 0 rfl rfl)
theorem dX4_person_1 : decode cX4_person 1 = .ok (.iload_n 1, 1) := dk_27 (dk_at dksX4_person_0 1 rfl rfl)
theorem dX4_person_2 : decode cX4_person 2 = .ok (.invokevirtual 328, 3) := dk_182 1 72 (dk_at dksX4_person_0 2 rfl rfl)
theorem dX4_person_5 : decode cX4_person 5 = .ok (.ifCond .eq 15, 3) := dk_153 0 15 (dk_at dksX4_person_0 5 rfl rfl)
theorem dX4_person_8 : decode cX4_person 8 = .ok (.iload_n 2, 1) := dk_28 (dk_at dksX4_person_0 8 rfl rfl)
theorem dX4_person_9 : decode cX4_person 9 = .ok (.i2l, 1) := dk_133 (dk_at dksX4_person_0 9 rfl rfl)
theorem dX4_person_10 : decode cX4_person 10 = .ok (.lconst 0, 1) := dk_9 (dk_at dksX4_person_0 10 rfl rfl)
theorem dX4_person_11 : decode cX4_person 11 = .ok (.ldc2_w 331, 3) := dk_20 1 75 (dk_at dksX4_person_0 11 rfl rfl)
theorem dX4_person_14 : decode cX4_person 14 = .ok (.invokestatic 128, 3) := dk_184 0 128 (dk_at dksX4_person_0 14 rfl rfl)
theorem dX4_person_17 : decode cX4_person 17 = .ok (.ifCond .ne 6, 3) := dk_154 0 6 (dk_at dksX4_person_0 17 rfl rfl)
theorem dX4_person_20 : decode cX4_person 20 = .ok (.bipush (-2), 2) := dk_16 254 (dk_at dksX4_person_0 20 rfl rfl)
theorem dX4_person_22 : decode cX4_person 22 = .ok (.ireturn, 1) := dk_172 (dk_at dksX4_person_0 22 rfl rfl)
theorem dX4_person_23 : decode cX4_person 23 = .ok (.iload_n 2, 1) := dk_28 (dk_at dksX4_person_0 23 rfl rfl)
theorem dX4_person_24 : decode cX4_person 24 = .ok (.iconst 3, 1) := dk_6 (dk_at dksX4_person_1 0 rfl rfl)
theorem dX4_person_25 : decode cX4_person 25 = .ok (.if_icmp .ge 12, 3) := dk_162 0 12 (dk_at dksX4_person_1 1 rfl rfl)
theorem dX4_person_28 : decode cX4_person 28 = .ok (.aload_n 0, 1) := dk_42 (dk_at dksX4_person_1 4 rfl rfl)
theorem dX4_person_29 : decode cX4_person 29 = .ok (.iload_n 1, 1) := dk_27 (dk_at dksX4_person_1 5 rfl rfl)
theorem dX4_person_30 : decode cX4_person 30 = .ok (.iload_n 2, 1) := dk_28 (dk_at dksX4_person_1 6 rfl rfl)
theorem dX4_person_31 : decode cX4_person 31 = .ok (.invokevirtual 279, 3) := dk_182 1 23 (dk_at dksX4_person_1 7 rfl rfl)
theorem dX4_person_34 : decode cX4_person 34 = .ok (.goto 37, 3) := dk_167 0 37 (dk_at dksX4_person_1 10 rfl rfl)
theorem dX4_person_37 : decode cX4_person 37 = .ok (.iload_n 2, 1) := dk_28 (dk_at dksX4_person_1 13 rfl rfl)
theorem dX4_person_38 : decode cX4_person 38 = .ok (.iconst 3, 1) := dk_6 (dk_at dksX4_person_1 14 rfl rfl)
theorem dX4_person_39 : decode cX4_person 39 = .ok (.if_icmp .ne 11, 3) := dk_160 0 11 (dk_at dksX4_person_1 15 rfl rfl)
theorem dX4_person_42 : decode cX4_person 42 = .ok (.aload_n 0, 1) := dk_42 (dk_at dksX4_person_1 18 rfl rfl)
theorem dX4_person_43 : decode cX4_person 43 = .ok (.iload_n 1, 1) := dk_27 (dk_at dksX4_person_1 19 rfl rfl)
theorem dX4_person_44 : decode cX4_person 44 = .ok (.invokevirtual 319, 3) := dk_182 1 63 (dk_at dksX4_person_1 20 rfl rfl)
theorem dX4_person_47 : decode cX4_person 47 = .ok (.goto 24, 3) := dk_167 0 24 (dk_at dksX4_person_2 0 rfl rfl)
theorem dX4_person_50 : decode cX4_person 50 = .ok (.iload_n 2, 1) := dk_28 (dk_at dksX4_person_2 3 rfl rfl)
theorem dX4_person_51 : decode cX4_person 51 = .ok (.iconst 4, 1) := dk_7 (dk_at dksX4_person_2 4 rfl rfl)
theorem dX4_person_52 : decode cX4_person 52 = .ok (.if_icmp .ne 11, 3) := dk_160 0 11 (dk_at dksX4_person_2 5 rfl rfl)
theorem dX4_person_55 : decode cX4_person 55 = .ok (.aload_n 0, 1) := dk_42 (dk_at dksX4_person_2 8 rfl rfl)
theorem dX4_person_56 : decode cX4_person 56 = .ok (.iload_n 1, 1) := dk_27 (dk_at dksX4_person_2 9 rfl rfl)
theorem dX4_person_57 : decode cX4_person 57 = .ok (.invokevirtual 333, 3) := dk_182 1 77 (dk_at dksX4_person_2 10 rfl rfl)
theorem dX4_person_60 : decode cX4_person 60 = .ok (.goto 11, 3) := dk_167 0 11 (dk_at dksX4_person_2 13 rfl rfl)
theorem dX4_person_63 : decode cX4_person 63 = .ok (.aload_n 0, 1) := dk_42 (dk_at dksX4_person_2 16 rfl rfl)
theorem dX4_person_64 : decode cX4_person 64 = .ok (.iload_n 1, 1) := dk_27 (dk_at dksX4_person_2 17 rfl rfl)
theorem dX4_person_65 : decode cX4_person 65 = .ok (.iload_n 2, 1) := dk_28 (dk_at dksX4_person_2 18 rfl rfl)
theorem dX4_person_66 : decode cX4_person 66 = .ok (.iconst 2, 1) := dk_5 (dk_at dksX4_person_2 19 rfl rfl)
theorem dX4_person_67 : decode cX4_person 67 = .ok (.isub, 1) := dk_100 (dk_at dksX4_person_2 20 rfl rfl)
theorem dX4_person_68 : decode cX4_person 68 = .ok (.invokevirtual 279, 3) := dk_182 1 23 (dk_at dksX4_person_2 21 rfl rfl)
theorem dX4_person_71 : decode cX4_person 71 = .ok (.ireturn, 1) := dk_172 (dk_at dksX4_person_3 0 rfl rfl)
abbrev cX4_isPerson : ByteArray := prog_20_method_49_code
def yX4_isPerson : MethodName := ⟨RX4, "isPerson", "(I)Z"⟩
def dkwX4_isPerson_0 : List UInt8 := [27, 155, 0, 17, 27, 42, 180, 0, 39, 5, 46, 162, 0, 7, 4, 167, 0, 4, 3, 172]
abbrev dktX4_isPerson_0 : List UInt8 := dkwX4_isPerson_0 ++ []
theorem dksX4_isPerson_0 : cX4_isPerson.data.toList.drop 0 = dktX4_isPerson_0 := by decide +kernel
theorem dX4_isPerson_0 : decode cX4_isPerson 0 = .ok (.iload_n 1, 1) := dk_27 (dk_at dksX4_isPerson_0 0 rfl rfl)
theorem dX4_isPerson_1 : decode cX4_isPerson 1 = .ok (.ifCond .lt 17, 3) := dk_155 0 17 (dk_at dksX4_isPerson_0 1 rfl rfl)
theorem dX4_isPerson_4 : decode cX4_isPerson 4 = .ok (.iload_n 1, 1) := dk_27 (dk_at dksX4_isPerson_0 4 rfl rfl)
theorem dX4_isPerson_5 : decode cX4_isPerson 5 = .ok (.aload_n 0, 1) := dk_42 (dk_at dksX4_isPerson_0 5 rfl rfl)
theorem dX4_isPerson_6 : decode cX4_isPerson 6 = .ok (.getfield 39, 3) := dk_180 0 39 (dk_at dksX4_isPerson_0 6 rfl rfl)
theorem dX4_isPerson_9 : decode cX4_isPerson 9 = .ok (.iconst 2, 1) := dk_5 (dk_at dksX4_isPerson_0 9 rfl rfl)
theorem dX4_isPerson_10 : decode cX4_isPerson 10 = .ok (.iaload, 1) := dk_46 (dk_at dksX4_isPerson_0 10 rfl rfl)
theorem dX4_isPerson_11 : decode cX4_isPerson 11 = .ok (.if_icmp .ge 7, 3) := dk_162 0 7 (dk_at dksX4_isPerson_0 11 rfl rfl)
theorem dX4_isPerson_14 : decode cX4_isPerson 14 = .ok (.iconst 1, 1) := dk_4 (dk_at dksX4_isPerson_0 14 rfl rfl)
theorem dX4_isPerson_15 : decode cX4_isPerson 15 = .ok (.goto 4, 3) := dk_167 0 4 (dk_at dksX4_isPerson_0 15 rfl rfl)
theorem dX4_isPerson_18 : decode cX4_isPerson 18 = .ok (.iconst 0, 1) := dk_3 (dk_at dksX4_isPerson_0 18 rfl rfl)
theorem dX4_isPerson_19 : decode cX4_isPerson 19 = .ok (.ireturn, 1) := dk_172 (dk_at dksX4_isPerson_0 19 rfl rfl)
abbrev cX4_leftOf : ByteArray := prog_20_method_59_code
def yX4_leftOf : MethodName := ⟨RX4, "leftOf", "(I)I"⟩
def dkwX4_leftOf_0 : List UInt8 := [42, 42, 27, 3, 182, 1, 23, 42, 27, 4, 182, 1, 23, 182, 1, 60, 172]
abbrev dktX4_leftOf_0 : List UInt8 := dkwX4_leftOf_0 ++ []
theorem dksX4_leftOf_0 : cX4_leftOf.data.toList.drop 0 = dktX4_leftOf_0 := by decide +kernel
theorem dX4_leftOf_0 : decode cX4_leftOf 0 = .ok (.aload_n 0, 1) := dk_42 (dk_at dksX4_leftOf_0 0 rfl rfl)
theorem dX4_leftOf_1 : decode cX4_leftOf 1 = .ok (.aload_n 0, 1) := dk_42 (dk_at dksX4_leftOf_0 1 rfl rfl)
theorem dX4_leftOf_2 : decode cX4_leftOf 2 = .ok (.iload_n 1, 1) := dk_27 (dk_at dksX4_leftOf_0 2 rfl rfl)
theorem dX4_leftOf_3 : decode cX4_leftOf 3 = .ok (.iconst 0, 1) := dk_3 (dk_at dksX4_leftOf_0 3 rfl rfl)
theorem dX4_leftOf_4 : decode cX4_leftOf 4 = .ok (.invokevirtual 279, 3) := dk_182 1 23 (dk_at dksX4_leftOf_0 4 rfl rfl)
theorem dX4_leftOf_7 : decode cX4_leftOf 7 = .ok (.aload_n 0, 1) := dk_42 (dk_at dksX4_leftOf_0 7 rfl rfl)
theorem dX4_leftOf_8 : decode cX4_leftOf 8 = .ok (.iload_n 1, 1) := dk_27 (dk_at dksX4_leftOf_0 8 rfl rfl)
theorem dX4_leftOf_9 : decode cX4_leftOf 9 = .ok (.iconst 1, 1) := dk_4 (dk_at dksX4_leftOf_0 9 rfl rfl)
theorem dX4_leftOf_10 : decode cX4_leftOf 10 = .ok (.invokevirtual 279, 3) := dk_182 1 23 (dk_at dksX4_leftOf_0 10 rfl rfl)
theorem dX4_leftOf_13 : decode cX4_leftOf 13 = .ok (.invokevirtual 316, 3) := dk_182 1 60 (dk_at dksX4_leftOf_0 13 rfl rfl)
theorem dX4_leftOf_16 : decode cX4_leftOf 16 = .ok (.ireturn, 1) := dk_172 (dk_at dksX4_leftOf_0 16 rfl rfl)
abbrev cX4_leftFrom : ByteArray := prog_20_method_58_code
def yX4_leftFrom : MethodName := ⟨RX4, "leftFrom", "(II)I"⟩
def dkwX4_leftFrom_0 : List UInt8 := [42, 28, 182, 1, 57, 42, 180, 0, 46, 27, 46, 172]
abbrev dktX4_leftFrom_0 : List UInt8 := dkwX4_leftFrom_0 ++ []
theorem dksX4_leftFrom_0 : cX4_leftFrom.data.toList.drop 0 = dktX4_leftFrom_0 := by decide +kernel
theorem dX4_leftFrom_0 : decode cX4_leftFrom 0 = .ok (.aload_n 0, 1) := dk_42 (dk_at dksX4_leftFrom_0 0 rfl rfl)
theorem dX4_leftFrom_1 : decode cX4_leftFrom 1 = .ok (.iload_n 2, 1) := dk_28 (dk_at dksX4_leftFrom_0 1 rfl rfl)
theorem dX4_leftFrom_2 : decode cX4_leftFrom 2 = .ok (.invokevirtual 313, 3) := dk_182 1 57 (dk_at dksX4_leftFrom_0 2 rfl rfl)
theorem dX4_leftFrom_5 : decode cX4_leftFrom 5 = .ok (.aload_n 0, 1) := dk_42 (dk_at dksX4_leftFrom_0 5 rfl rfl)
theorem dX4_leftFrom_6 : decode cX4_leftFrom 6 = .ok (.getfield 46, 3) := dk_180 0 46 (dk_at dksX4_leftFrom_0 6 rfl rfl)
theorem dX4_leftFrom_9 : decode cX4_leftFrom 9 = .ok (.iload_n 1, 1) := dk_27 (dk_at dksX4_leftFrom_0 9 rfl rfl)
theorem dX4_leftFrom_10 : decode cX4_leftFrom 10 = .ok (.iaload, 1) := dk_46 (dk_at dksX4_leftFrom_0 10 rfl rfl)
theorem dX4_leftFrom_11 : decode cX4_leftFrom 11 = .ok (.ireturn, 1) := dk_172 (dk_at dksX4_leftFrom_0 11 rfl rfl)
abbrev cX4_fillsDoors : ByteArray := prog_20_method_57_code
def yX4_fillsDoors : MethodName := ⟨RX4, "fillsDoors", "(I)V"⟩
def dkwX4_fillsDoors_6 : List UInt8 := [42, 180, 0, 46, 21, 5, 46, 4, 96, 79, 4, 61, 132, 3, 1, 167, 255, 144, 167, 255, 133, 177]
abbrev dktX4_fillsDoors_6 : List UInt8 := dkwX4_fillsDoors_6 ++ []
def dkwX4_fillsDoors_5 : List UInt8 := [180, 0, 46, 21, 5, 46, 4, 96, 42, 180, 0, 46, 21, 4, 46, 162, 0, 21, 42, 180, 0, 46, 21, 4]
abbrev dktX4_fillsDoors_5 : List UInt8 := dkwX4_fillsDoors_5 ++ dktX4_fillsDoors_6
def dkwX4_fillsDoors_4 : List UInt8 := [46, 162, 0, 21, 42, 180, 0, 46, 21, 5, 42, 180, 0, 46, 21, 4, 46, 4, 96, 79, 4, 61, 42]
abbrev dktX4_fillsDoors_4 : List UInt8 := dkwX4_fillsDoors_4 ++ dktX4_fillsDoors_5
def dkwX4_fillsDoors_3 : List UInt8 := [54, 4, 42, 29, 182, 1, 48, 54, 5, 42, 180, 0, 46, 21, 4, 46, 4, 96, 42, 180, 0, 46, 21, 5]
abbrev dktX4_fillsDoors_3 : List UInt8 := dkwX4_fillsDoors_3 ++ dktX4_fillsDoors_4
def dkwX4_fillsDoors_2 : List UInt8 := [180, 0, 39, 4, 46, 162, 0, 108, 42, 29, 182, 1, 54, 154, 0, 6, 167, 0, 91, 42, 29, 182, 1, 45]
abbrev dktX4_fillsDoors_2 : List UInt8 := dkwX4_fillsDoors_2 ++ dktX4_fillsDoors_3
def dkwX4_fillsDoors_1 : List UInt8 := [167, 0, 5, 16, 99, 79, 132, 2, 1, 167, 255, 226, 4, 61, 28, 153, 0, 125, 3, 61, 3, 62, 29, 42]
abbrev dktX4_fillsDoors_1 : List UInt8 := dkwX4_fillsDoors_1 ++ dktX4_fillsDoors_2
def dkwX4_fillsDoors_0 : List UInt8 := [3, 61, 28, 42, 180, 0, 39, 3, 46, 162, 0, 26, 42, 180, 0, 46, 28, 28, 27, 160, 0, 7, 3]
abbrev dktX4_fillsDoors_0 : List UInt8 := dkwX4_fillsDoors_0 ++ dktX4_fillsDoors_1
theorem dksX4_fillsDoors_0 : cX4_fillsDoors.data.toList.drop 0 = dktX4_fillsDoors_0 := by decide +kernel
theorem dksX4_fillsDoors_1 : cX4_fillsDoors.data.toList.drop 23 = dktX4_fillsDoors_1 := dk_seg dksX4_fillsDoors_0 23 rfl rfl
theorem dksX4_fillsDoors_2 : cX4_fillsDoors.data.toList.drop 47 = dktX4_fillsDoors_2 := dk_seg dksX4_fillsDoors_1 24 rfl rfl
theorem dksX4_fillsDoors_3 : cX4_fillsDoors.data.toList.drop 71 = dktX4_fillsDoors_3 := dk_seg dksX4_fillsDoors_2 24 rfl rfl
theorem dksX4_fillsDoors_4 : cX4_fillsDoors.data.toList.drop 95 = dktX4_fillsDoors_4 := dk_seg dksX4_fillsDoors_3 24 rfl rfl
theorem dksX4_fillsDoors_5 : cX4_fillsDoors.data.toList.drop 118 = dktX4_fillsDoors_5 := dk_seg dksX4_fillsDoors_4 23 rfl rfl
theorem dksX4_fillsDoors_6 : cX4_fillsDoors.data.toList.drop 142 = dktX4_fillsDoors_6 := dk_seg dksX4_fillsDoors_5 24 rfl rfl
theorem dX4_fillsDoors_0 : decode cX4_fillsDoors 0 = .ok (.iconst 0, 1) := dk_3 (dk_at dksX4_fillsDoors_0 0 rfl rfl)
theorem dX4_fillsDoors_1 : decode cX4_fillsDoors 1 = .ok (.istore_n 2, 1) := dk_61 (dk_at dksX4_fillsDoors_0 1 rfl rfl)
theorem dX4_fillsDoors_2 : decode cX4_fillsDoors 2 = .ok (.iload_n 2, 1) := dk_28 (dk_at dksX4_fillsDoors_0 2 rfl rfl)
theorem dX4_fillsDoors_3 : decode cX4_fillsDoors 3 = .ok (.aload_n 0, 1) := dk_42 (dk_at dksX4_fillsDoors_0 3 rfl rfl)
theorem dX4_fillsDoors_4 : decode cX4_fillsDoors 4 = .ok (.getfield 39, 3) := dk_180 0 39 (dk_at dksX4_fillsDoors_0 4 rfl rfl)
theorem dX4_fillsDoors_7 : decode cX4_fillsDoors 7 = .ok (.iconst 0, 1) := dk_3 (dk_at dksX4_fillsDoors_0 7 rfl rfl)
theorem dX4_fillsDoors_8 : decode cX4_fillsDoors 8 = .ok (.iaload, 1) := dk_46 (dk_at dksX4_fillsDoors_0 8 rfl rfl)
theorem dX4_fillsDoors_9 : decode cX4_fillsDoors 9 = .ok (.if_icmp .ge 26, 3) := dk_162 0 26 (dk_at dksX4_fillsDoors_0 9 rfl rfl)
theorem dX4_fillsDoors_12 : decode cX4_fillsDoors 12 = .ok (.aload_n 0, 1) := dk_42 (dk_at dksX4_fillsDoors_0 12 rfl rfl)
theorem dX4_fillsDoors_13 : decode cX4_fillsDoors 13 = .ok (.getfield 46, 3) := dk_180 0 46 (dk_at dksX4_fillsDoors_0 13 rfl rfl)
theorem dX4_fillsDoors_16 : decode cX4_fillsDoors 16 = .ok (.iload_n 2, 1) := dk_28 (dk_at dksX4_fillsDoors_0 16 rfl rfl)
theorem dX4_fillsDoors_17 : decode cX4_fillsDoors 17 = .ok (.iload_n 2, 1) := dk_28 (dk_at dksX4_fillsDoors_0 17 rfl rfl)
theorem dX4_fillsDoors_18 : decode cX4_fillsDoors 18 = .ok (.iload_n 1, 1) := dk_27 (dk_at dksX4_fillsDoors_0 18 rfl rfl)
theorem dX4_fillsDoors_19 : decode cX4_fillsDoors 19 = .ok (.if_icmp .ne 7, 3) := dk_160 0 7 (dk_at dksX4_fillsDoors_0 19 rfl rfl)
theorem dX4_fillsDoors_22 : decode cX4_fillsDoors 22 = .ok (.iconst 0, 1) := dk_3 (dk_at dksX4_fillsDoors_0 22 rfl rfl)
theorem dX4_fillsDoors_23 : decode cX4_fillsDoors 23 = .ok (.goto 5, 3) := dk_167 0 5 (dk_at dksX4_fillsDoors_1 0 rfl rfl)
theorem dX4_fillsDoors_26 : decode cX4_fillsDoors 26 = .ok (.bipush 99, 2) := dk_16 99 (dk_at dksX4_fillsDoors_1 3 rfl rfl)
theorem dX4_fillsDoors_28 : decode cX4_fillsDoors 28 = .ok (.iastore, 1) := dk_79 (dk_at dksX4_fillsDoors_1 5 rfl rfl)
theorem dX4_fillsDoors_29 : decode cX4_fillsDoors 29 = .ok (.iinc 2 1, 3) := dk_132 2 1 (dk_at dksX4_fillsDoors_1 6 rfl rfl)
theorem dX4_fillsDoors_32 : decode cX4_fillsDoors 32 = .ok (.goto (-30), 3) := dk_167 255 226 (dk_at dksX4_fillsDoors_1 9 rfl rfl)
theorem dX4_fillsDoors_35 : decode cX4_fillsDoors 35 = .ok (.iconst 1, 1) := dk_4 (dk_at dksX4_fillsDoors_1 12 rfl rfl)
theorem dX4_fillsDoors_36 : decode cX4_fillsDoors 36 = .ok (.istore_n 2, 1) := dk_61 (dk_at dksX4_fillsDoors_1 13 rfl rfl)
theorem dX4_fillsDoors_37 : decode cX4_fillsDoors 37 = .ok (.iload_n 2, 1) := dk_28 (dk_at dksX4_fillsDoors_1 14 rfl rfl)
theorem dX4_fillsDoors_38 : decode cX4_fillsDoors 38 = .ok (.ifCond .eq 125, 3) := dk_153 0 125 (dk_at dksX4_fillsDoors_1 15 rfl rfl)
theorem dX4_fillsDoors_41 : decode cX4_fillsDoors 41 = .ok (.iconst 0, 1) := dk_3 (dk_at dksX4_fillsDoors_1 18 rfl rfl)
theorem dX4_fillsDoors_42 : decode cX4_fillsDoors 42 = .ok (.istore_n 2, 1) := dk_61 (dk_at dksX4_fillsDoors_1 19 rfl rfl)
theorem dX4_fillsDoors_43 : decode cX4_fillsDoors 43 = .ok (.iconst 0, 1) := dk_3 (dk_at dksX4_fillsDoors_1 20 rfl rfl)
theorem dX4_fillsDoors_44 : decode cX4_fillsDoors 44 = .ok (.istore_n 3, 1) := dk_62 (dk_at dksX4_fillsDoors_1 21 rfl rfl)
theorem dX4_fillsDoors_45 : decode cX4_fillsDoors 45 = .ok (.iload_n 3, 1) := dk_29 (dk_at dksX4_fillsDoors_1 22 rfl rfl)
theorem dX4_fillsDoors_46 : decode cX4_fillsDoors 46 = .ok (.aload_n 0, 1) := dk_42 (dk_at dksX4_fillsDoors_1 23 rfl rfl)
theorem dX4_fillsDoors_47 : decode cX4_fillsDoors 47 = .ok (.getfield 39, 3) := dk_180 0 39 (dk_at dksX4_fillsDoors_2 0 rfl rfl)
theorem dX4_fillsDoors_50 : decode cX4_fillsDoors 50 = .ok (.iconst 1, 1) := dk_4 (dk_at dksX4_fillsDoors_2 3 rfl rfl)
theorem dX4_fillsDoors_51 : decode cX4_fillsDoors 51 = .ok (.iaload, 1) := dk_46 (dk_at dksX4_fillsDoors_2 4 rfl rfl)
theorem dX4_fillsDoors_52 : decode cX4_fillsDoors 52 = .ok (.if_icmp .ge 108, 3) := dk_162 0 108 (dk_at dksX4_fillsDoors_2 5 rfl rfl)
theorem dX4_fillsDoors_55 : decode cX4_fillsDoors 55 = .ok (.aload_n 0, 1) := dk_42 (dk_at dksX4_fillsDoors_2 8 rfl rfl)
theorem dX4_fillsDoors_56 : decode cX4_fillsDoors 56 = .ok (.iload_n 3, 1) := dk_29 (dk_at dksX4_fillsDoors_2 9 rfl rfl)
theorem dX4_fillsDoors_57 : decode cX4_fillsDoors 57 = .ok (.invokevirtual 310, 3) := dk_182 1 54 (dk_at dksX4_fillsDoors_2 10 rfl rfl)
theorem dX4_fillsDoors_60 : decode cX4_fillsDoors 60 = .ok (.ifCond .ne 6, 3) := dk_154 0 6 (dk_at dksX4_fillsDoors_2 13 rfl rfl)
theorem dX4_fillsDoors_63 : decode cX4_fillsDoors 63 = .ok (.goto 91, 3) := dk_167 0 91 (dk_at dksX4_fillsDoors_2 16 rfl rfl)
theorem dX4_fillsDoors_66 : decode cX4_fillsDoors 66 = .ok (.aload_n 0, 1) := dk_42 (dk_at dksX4_fillsDoors_2 19 rfl rfl)
theorem dX4_fillsDoors_67 : decode cX4_fillsDoors 67 = .ok (.iload_n 3, 1) := dk_29 (dk_at dksX4_fillsDoors_2 20 rfl rfl)
theorem dX4_fillsDoors_68 : decode cX4_fillsDoors 68 = .ok (.invokevirtual 301, 3) := dk_182 1 45 (dk_at dksX4_fillsDoors_2 21 rfl rfl)
theorem dX4_fillsDoors_71 : decode cX4_fillsDoors 71 = .ok (.istore 4, 2) := dk_54 4 (dk_at dksX4_fillsDoors_3 0 rfl rfl)
theorem dX4_fillsDoors_73 : decode cX4_fillsDoors 73 = .ok (.aload_n 0, 1) := dk_42 (dk_at dksX4_fillsDoors_3 2 rfl rfl)
theorem dX4_fillsDoors_74 : decode cX4_fillsDoors 74 = .ok (.iload_n 3, 1) := dk_29 (dk_at dksX4_fillsDoors_3 3 rfl rfl)
theorem dX4_fillsDoors_75 : decode cX4_fillsDoors 75 = .ok (.invokevirtual 304, 3) := dk_182 1 48 (dk_at dksX4_fillsDoors_3 4 rfl rfl)
theorem dX4_fillsDoors_78 : decode cX4_fillsDoors 78 = .ok (.istore 5, 2) := dk_54 5 (dk_at dksX4_fillsDoors_3 7 rfl rfl)
theorem dX4_fillsDoors_80 : decode cX4_fillsDoors 80 = .ok (.aload_n 0, 1) := dk_42 (dk_at dksX4_fillsDoors_3 9 rfl rfl)
theorem dX4_fillsDoors_81 : decode cX4_fillsDoors 81 = .ok (.getfield 46, 3) := dk_180 0 46 (dk_at dksX4_fillsDoors_3 10 rfl rfl)
theorem dX4_fillsDoors_84 : decode cX4_fillsDoors 84 = .ok (.iload 4, 2) := dk_21 4 (dk_at dksX4_fillsDoors_3 13 rfl rfl)
theorem dX4_fillsDoors_86 : decode cX4_fillsDoors 86 = .ok (.iaload, 1) := dk_46 (dk_at dksX4_fillsDoors_3 15 rfl rfl)
theorem dX4_fillsDoors_87 : decode cX4_fillsDoors 87 = .ok (.iconst 1, 1) := dk_4 (dk_at dksX4_fillsDoors_3 16 rfl rfl)
theorem dX4_fillsDoors_88 : decode cX4_fillsDoors 88 = .ok (.iadd, 1) := dk_96 (dk_at dksX4_fillsDoors_3 17 rfl rfl)
theorem dX4_fillsDoors_89 : decode cX4_fillsDoors 89 = .ok (.aload_n 0, 1) := dk_42 (dk_at dksX4_fillsDoors_3 18 rfl rfl)
theorem dX4_fillsDoors_90 : decode cX4_fillsDoors 90 = .ok (.getfield 46, 3) := dk_180 0 46 (dk_at dksX4_fillsDoors_3 19 rfl rfl)
theorem dX4_fillsDoors_93 : decode cX4_fillsDoors 93 = .ok (.iload 5, 2) := dk_21 5 (dk_at dksX4_fillsDoors_3 22 rfl rfl)
theorem dX4_fillsDoors_95 : decode cX4_fillsDoors 95 = .ok (.iaload, 1) := dk_46 (dk_at dksX4_fillsDoors_4 0 rfl rfl)
theorem dX4_fillsDoors_96 : decode cX4_fillsDoors 96 = .ok (.if_icmp .ge 21, 3) := dk_162 0 21 (dk_at dksX4_fillsDoors_4 1 rfl rfl)
theorem dX4_fillsDoors_99 : decode cX4_fillsDoors 99 = .ok (.aload_n 0, 1) := dk_42 (dk_at dksX4_fillsDoors_4 4 rfl rfl)
theorem dX4_fillsDoors_100 : decode cX4_fillsDoors 100 = .ok (.getfield 46, 3) := dk_180 0 46 (dk_at dksX4_fillsDoors_4 5 rfl rfl)
theorem dX4_fillsDoors_103 : decode cX4_fillsDoors 103 = .ok (.iload 5, 2) := dk_21 5 (dk_at dksX4_fillsDoors_4 8 rfl rfl)
theorem dX4_fillsDoors_105 : decode cX4_fillsDoors 105 = .ok (.aload_n 0, 1) := dk_42 (dk_at dksX4_fillsDoors_4 10 rfl rfl)
theorem dX4_fillsDoors_106 : decode cX4_fillsDoors 106 = .ok (.getfield 46, 3) := dk_180 0 46 (dk_at dksX4_fillsDoors_4 11 rfl rfl)
theorem dX4_fillsDoors_109 : decode cX4_fillsDoors 109 = .ok (.iload 4, 2) := dk_21 4 (dk_at dksX4_fillsDoors_4 14 rfl rfl)
theorem dX4_fillsDoors_111 : decode cX4_fillsDoors 111 = .ok (.iaload, 1) := dk_46 (dk_at dksX4_fillsDoors_4 16 rfl rfl)
theorem dX4_fillsDoors_112 : decode cX4_fillsDoors 112 = .ok (.iconst 1, 1) := dk_4 (dk_at dksX4_fillsDoors_4 17 rfl rfl)
theorem dX4_fillsDoors_113 : decode cX4_fillsDoors 113 = .ok (.iadd, 1) := dk_96 (dk_at dksX4_fillsDoors_4 18 rfl rfl)
theorem dX4_fillsDoors_114 : decode cX4_fillsDoors 114 = .ok (.iastore, 1) := dk_79 (dk_at dksX4_fillsDoors_4 19 rfl rfl)
theorem dX4_fillsDoors_115 : decode cX4_fillsDoors 115 = .ok (.iconst 1, 1) := dk_4 (dk_at dksX4_fillsDoors_4 20 rfl rfl)
theorem dX4_fillsDoors_116 : decode cX4_fillsDoors 116 = .ok (.istore_n 2, 1) := dk_61 (dk_at dksX4_fillsDoors_4 21 rfl rfl)
theorem dX4_fillsDoors_117 : decode cX4_fillsDoors 117 = .ok (.aload_n 0, 1) := dk_42 (dk_at dksX4_fillsDoors_4 22 rfl rfl)
theorem dX4_fillsDoors_118 : decode cX4_fillsDoors 118 = .ok (.getfield 46, 3) := dk_180 0 46 (dk_at dksX4_fillsDoors_5 0 rfl rfl)
theorem dX4_fillsDoors_121 : decode cX4_fillsDoors 121 = .ok (.iload 5, 2) := dk_21 5 (dk_at dksX4_fillsDoors_5 3 rfl rfl)
theorem dX4_fillsDoors_123 : decode cX4_fillsDoors 123 = .ok (.iaload, 1) := dk_46 (dk_at dksX4_fillsDoors_5 5 rfl rfl)
theorem dX4_fillsDoors_124 : decode cX4_fillsDoors 124 = .ok (.iconst 1, 1) := dk_4 (dk_at dksX4_fillsDoors_5 6 rfl rfl)
theorem dX4_fillsDoors_125 : decode cX4_fillsDoors 125 = .ok (.iadd, 1) := dk_96 (dk_at dksX4_fillsDoors_5 7 rfl rfl)
theorem dX4_fillsDoors_126 : decode cX4_fillsDoors 126 = .ok (.aload_n 0, 1) := dk_42 (dk_at dksX4_fillsDoors_5 8 rfl rfl)
theorem dX4_fillsDoors_127 : decode cX4_fillsDoors 127 = .ok (.getfield 46, 3) := dk_180 0 46 (dk_at dksX4_fillsDoors_5 9 rfl rfl)
theorem dX4_fillsDoors_130 : decode cX4_fillsDoors 130 = .ok (.iload 4, 2) := dk_21 4 (dk_at dksX4_fillsDoors_5 12 rfl rfl)
theorem dX4_fillsDoors_132 : decode cX4_fillsDoors 132 = .ok (.iaload, 1) := dk_46 (dk_at dksX4_fillsDoors_5 14 rfl rfl)
theorem dX4_fillsDoors_133 : decode cX4_fillsDoors 133 = .ok (.if_icmp .ge 21, 3) := dk_162 0 21 (dk_at dksX4_fillsDoors_5 15 rfl rfl)
theorem dX4_fillsDoors_136 : decode cX4_fillsDoors 136 = .ok (.aload_n 0, 1) := dk_42 (dk_at dksX4_fillsDoors_5 18 rfl rfl)
theorem dX4_fillsDoors_137 : decode cX4_fillsDoors 137 = .ok (.getfield 46, 3) := dk_180 0 46 (dk_at dksX4_fillsDoors_5 19 rfl rfl)
theorem dX4_fillsDoors_140 : decode cX4_fillsDoors 140 = .ok (.iload 4, 2) := dk_21 4 (dk_at dksX4_fillsDoors_5 22 rfl rfl)
theorem dX4_fillsDoors_142 : decode cX4_fillsDoors 142 = .ok (.aload_n 0, 1) := dk_42 (dk_at dksX4_fillsDoors_6 0 rfl rfl)
theorem dX4_fillsDoors_143 : decode cX4_fillsDoors 143 = .ok (.getfield 46, 3) := dk_180 0 46 (dk_at dksX4_fillsDoors_6 1 rfl rfl)
theorem dX4_fillsDoors_146 : decode cX4_fillsDoors 146 = .ok (.iload 5, 2) := dk_21 5 (dk_at dksX4_fillsDoors_6 4 rfl rfl)
theorem dX4_fillsDoors_148 : decode cX4_fillsDoors 148 = .ok (.iaload, 1) := dk_46 (dk_at dksX4_fillsDoors_6 6 rfl rfl)
theorem dX4_fillsDoors_149 : decode cX4_fillsDoors 149 = .ok (.iconst 1, 1) := dk_4 (dk_at dksX4_fillsDoors_6 7 rfl rfl)
theorem dX4_fillsDoors_150 : decode cX4_fillsDoors 150 = .ok (.iadd, 1) := dk_96 (dk_at dksX4_fillsDoors_6 8 rfl rfl)
theorem dX4_fillsDoors_151 : decode cX4_fillsDoors 151 = .ok (.iastore, 1) := dk_79 (dk_at dksX4_fillsDoors_6 9 rfl rfl)
theorem dX4_fillsDoors_152 : decode cX4_fillsDoors 152 = .ok (.iconst 1, 1) := dk_4 (dk_at dksX4_fillsDoors_6 10 rfl rfl)
theorem dX4_fillsDoors_153 : decode cX4_fillsDoors 153 = .ok (.istore_n 2, 1) := dk_61 (dk_at dksX4_fillsDoors_6 11 rfl rfl)
theorem dX4_fillsDoors_154 : decode cX4_fillsDoors 154 = .ok (.iinc 3 1, 3) := dk_132 3 1 (dk_at dksX4_fillsDoors_6 12 rfl rfl)
theorem dX4_fillsDoors_157 : decode cX4_fillsDoors 157 = .ok (.goto (-112), 3) := dk_167 255 144 (dk_at dksX4_fillsDoors_6 15 rfl rfl)
theorem dX4_fillsDoors_160 : decode cX4_fillsDoors 160 = .ok (.goto (-123), 3) := dk_167 255 133 (dk_at dksX4_fillsDoors_6 18 rfl rfl)
theorem dX4_fillsDoors_163 : decode cX4_fillsDoors 163 = .ok (.return_, 1) := dk_177 (dk_at dksX4_fillsDoors_6 21 rfl rfl)
abbrev cX4_isOpen : ByteArray := prog_20_method_56_code
def yX4_isOpen : MethodName := ⟨RX4, "isOpen", "(I)Z"⟩
def dkwX4_isOpen_2 : List UInt8 := [182, 1, 51, 153, 0, 7, 4, 167, 0, 4, 3, 172]
abbrev dktX4_isOpen_2 : List UInt8 := dkwX4_isOpen_2 ++ []
def dkwX4_isOpen_1 : List UInt8 := [96, 46, 159, 0, 30, 42, 180, 0, 39, 16, 42, 6, 27, 104, 96, 5, 96, 46, 153, 0, 10, 42]
abbrev dktX4_isOpen_1 : List UInt8 := dkwX4_isOpen_1 ++ dktX4_isOpen_2
def dkwX4_isOpen_0 : List UInt8 := [42, 180, 0, 39, 16, 34, 42, 27, 182, 1, 45, 96, 46, 42, 180, 0, 39, 16, 34, 42, 27, 182, 1, 48]
abbrev dktX4_isOpen_0 : List UInt8 := dkwX4_isOpen_0 ++ dktX4_isOpen_1
theorem dksX4_isOpen_0 : cX4_isOpen.data.toList.drop 0 = dktX4_isOpen_0 := by decide +kernel
theorem dksX4_isOpen_1 : cX4_isOpen.data.toList.drop 24 = dktX4_isOpen_1 := dk_seg dksX4_isOpen_0 24 rfl rfl
theorem dksX4_isOpen_2 : cX4_isOpen.data.toList.drop 46 = dktX4_isOpen_2 := dk_seg dksX4_isOpen_1 22 rfl rfl
theorem dX4_isOpen_0 : decode cX4_isOpen 0 = .ok (.aload_n 0, 1) := dk_42 (dk_at dksX4_isOpen_0 0 rfl rfl)
theorem dX4_isOpen_1 : decode cX4_isOpen 1 = .ok (.getfield 39, 3) := dk_180 0 39 (dk_at dksX4_isOpen_0 1 rfl rfl)
theorem dX4_isOpen_4 : decode cX4_isOpen 4 = .ok (.bipush 34, 2) := dk_16 34 (dk_at dksX4_isOpen_0 4 rfl rfl)
theorem dX4_isOpen_6 : decode cX4_isOpen 6 = .ok (.aload_n 0, 1) := dk_42 (dk_at dksX4_isOpen_0 6 rfl rfl)
theorem dX4_isOpen_7 : decode cX4_isOpen 7 = .ok (.iload_n 1, 1) := dk_27 (dk_at dksX4_isOpen_0 7 rfl rfl)
theorem dX4_isOpen_8 : decode cX4_isOpen 8 = .ok (.invokevirtual 301, 3) := dk_182 1 45 (dk_at dksX4_isOpen_0 8 rfl rfl)
theorem dX4_isOpen_11 : decode cX4_isOpen 11 = .ok (.iadd, 1) := dk_96 (dk_at dksX4_isOpen_0 11 rfl rfl)
theorem dX4_isOpen_12 : decode cX4_isOpen 12 = .ok (.iaload, 1) := dk_46 (dk_at dksX4_isOpen_0 12 rfl rfl)
theorem dX4_isOpen_13 : decode cX4_isOpen 13 = .ok (.aload_n 0, 1) := dk_42 (dk_at dksX4_isOpen_0 13 rfl rfl)
theorem dX4_isOpen_14 : decode cX4_isOpen 14 = .ok (.getfield 39, 3) := dk_180 0 39 (dk_at dksX4_isOpen_0 14 rfl rfl)
theorem dX4_isOpen_17 : decode cX4_isOpen 17 = .ok (.bipush 34, 2) := dk_16 34 (dk_at dksX4_isOpen_0 17 rfl rfl)
theorem dX4_isOpen_19 : decode cX4_isOpen 19 = .ok (.aload_n 0, 1) := dk_42 (dk_at dksX4_isOpen_0 19 rfl rfl)
theorem dX4_isOpen_20 : decode cX4_isOpen 20 = .ok (.iload_n 1, 1) := dk_27 (dk_at dksX4_isOpen_0 20 rfl rfl)
theorem dX4_isOpen_21 : decode cX4_isOpen 21 = .ok (.invokevirtual 304, 3) := dk_182 1 48 (dk_at dksX4_isOpen_0 21 rfl rfl)
theorem dX4_isOpen_24 : decode cX4_isOpen 24 = .ok (.iadd, 1) := dk_96 (dk_at dksX4_isOpen_1 0 rfl rfl)
theorem dX4_isOpen_25 : decode cX4_isOpen 25 = .ok (.iaload, 1) := dk_46 (dk_at dksX4_isOpen_1 1 rfl rfl)
theorem dX4_isOpen_26 : decode cX4_isOpen 26 = .ok (.if_icmp .eq 30, 3) := dk_159 0 30 (dk_at dksX4_isOpen_1 2 rfl rfl)
theorem dX4_isOpen_29 : decode cX4_isOpen 29 = .ok (.aload_n 0, 1) := dk_42 (dk_at dksX4_isOpen_1 5 rfl rfl)
theorem dX4_isOpen_30 : decode cX4_isOpen 30 = .ok (.getfield 39, 3) := dk_180 0 39 (dk_at dksX4_isOpen_1 6 rfl rfl)
theorem dX4_isOpen_33 : decode cX4_isOpen 33 = .ok (.bipush 42, 2) := dk_16 42 (dk_at dksX4_isOpen_1 9 rfl rfl)
theorem dX4_isOpen_35 : decode cX4_isOpen 35 = .ok (.iconst 3, 1) := dk_6 (dk_at dksX4_isOpen_1 11 rfl rfl)
theorem dX4_isOpen_36 : decode cX4_isOpen 36 = .ok (.iload_n 1, 1) := dk_27 (dk_at dksX4_isOpen_1 12 rfl rfl)
theorem dX4_isOpen_37 : decode cX4_isOpen 37 = .ok (.imul, 1) := dk_104 (dk_at dksX4_isOpen_1 13 rfl rfl)
theorem dX4_isOpen_38 : decode cX4_isOpen 38 = .ok (.iadd, 1) := dk_96 (dk_at dksX4_isOpen_1 14 rfl rfl)
theorem dX4_isOpen_39 : decode cX4_isOpen 39 = .ok (.iconst 2, 1) := dk_5 (dk_at dksX4_isOpen_1 15 rfl rfl)
theorem dX4_isOpen_40 : decode cX4_isOpen 40 = .ok (.iadd, 1) := dk_96 (dk_at dksX4_isOpen_1 16 rfl rfl)
theorem dX4_isOpen_41 : decode cX4_isOpen 41 = .ok (.iaload, 1) := dk_46 (dk_at dksX4_isOpen_1 17 rfl rfl)
theorem dX4_isOpen_42 : decode cX4_isOpen 42 = .ok (.ifCond .eq 10, 3) := dk_153 0 10 (dk_at dksX4_isOpen_1 18 rfl rfl)
theorem dX4_isOpen_45 : decode cX4_isOpen 45 = .ok (.aload_n 0, 1) := dk_42 (dk_at dksX4_isOpen_1 21 rfl rfl)
theorem dX4_isOpen_46 : decode cX4_isOpen 46 = .ok (.invokevirtual 307, 3) := dk_182 1 51 (dk_at dksX4_isOpen_2 0 rfl rfl)
theorem dX4_isOpen_49 : decode cX4_isOpen 49 = .ok (.ifCond .eq 7, 3) := dk_153 0 7 (dk_at dksX4_isOpen_2 3 rfl rfl)
theorem dX4_isOpen_52 : decode cX4_isOpen 52 = .ok (.iconst 1, 1) := dk_4 (dk_at dksX4_isOpen_2 6 rfl rfl)
theorem dX4_isOpen_53 : decode cX4_isOpen 53 = .ok (.goto 4, 3) := dk_167 0 4 (dk_at dksX4_isOpen_2 7 rfl rfl)
theorem dX4_isOpen_56 : decode cX4_isOpen 56 = .ok (.iconst 0, 1) := dk_3 (dk_at dksX4_isOpen_2 10 rfl rfl)
theorem dX4_isOpen_57 : decode cX4_isOpen 57 = .ok (.ireturn, 1) := dk_172 (dk_at dksX4_isOpen_2 11 rfl rfl)
abbrev cX4_nearOf : ByteArray := prog_20_method_53_code
def yX4_nearOf : MethodName := ⟨RX4, "nearOf", "(I)I"⟩
def dkwX4_nearOf_0 : List UInt8 := [42, 180, 0, 39, 16, 42, 6, 27, 104, 96, 46, 172]
abbrev dktX4_nearOf_0 : List UInt8 := dkwX4_nearOf_0 ++ []
theorem dksX4_nearOf_0 : cX4_nearOf.data.toList.drop 0 = dktX4_nearOf_0 := by decide +kernel
theorem dX4_nearOf_0 : decode cX4_nearOf 0 = .ok (.aload_n 0, 1) := dk_42 (dk_at dksX4_nearOf_0 0 rfl rfl)
theorem dX4_nearOf_1 : decode cX4_nearOf 1 = .ok (.getfield 39, 3) := dk_180 0 39 (dk_at dksX4_nearOf_0 1 rfl rfl)
theorem dX4_nearOf_4 : decode cX4_nearOf 4 = .ok (.bipush 42, 2) := dk_16 42 (dk_at dksX4_nearOf_0 4 rfl rfl)
theorem dX4_nearOf_6 : decode cX4_nearOf 6 = .ok (.iconst 3, 1) := dk_6 (dk_at dksX4_nearOf_0 6 rfl rfl)
theorem dX4_nearOf_7 : decode cX4_nearOf 7 = .ok (.iload_n 1, 1) := dk_27 (dk_at dksX4_nearOf_0 7 rfl rfl)
theorem dX4_nearOf_8 : decode cX4_nearOf 8 = .ok (.imul, 1) := dk_104 (dk_at dksX4_nearOf_0 8 rfl rfl)
theorem dX4_nearOf_9 : decode cX4_nearOf 9 = .ok (.iadd, 1) := dk_96 (dk_at dksX4_nearOf_0 9 rfl rfl)
theorem dX4_nearOf_10 : decode cX4_nearOf 10 = .ok (.iaload, 1) := dk_46 (dk_at dksX4_nearOf_0 10 rfl rfl)
theorem dX4_nearOf_11 : decode cX4_nearOf 11 = .ok (.ireturn, 1) := dk_172 (dk_at dksX4_nearOf_0 11 rfl rfl)
abbrev cX4_farOf : ByteArray := prog_20_method_54_code
def yX4_farOf : MethodName := ⟨RX4, "farOf", "(I)I"⟩
def dkwX4_farOf_0 : List UInt8 := [42, 180, 0, 39, 16, 42, 6, 27, 104, 96, 4, 96, 46, 172]
abbrev dktX4_farOf_0 : List UInt8 := dkwX4_farOf_0 ++ []
theorem dksX4_farOf_0 : cX4_farOf.data.toList.drop 0 = dktX4_farOf_0 := by decide +kernel
theorem dX4_farOf_0 : decode cX4_farOf 0 = .ok (.aload_n 0, 1) := dk_42 (dk_at dksX4_farOf_0 0 rfl rfl)
theorem dX4_farOf_1 : decode cX4_farOf 1 = .ok (.getfield 39, 3) := dk_180 0 39 (dk_at dksX4_farOf_0 1 rfl rfl)
theorem dX4_farOf_4 : decode cX4_farOf 4 = .ok (.bipush 42, 2) := dk_16 42 (dk_at dksX4_farOf_0 4 rfl rfl)
theorem dX4_farOf_6 : decode cX4_farOf 6 = .ok (.iconst 3, 1) := dk_6 (dk_at dksX4_farOf_0 6 rfl rfl)
theorem dX4_farOf_7 : decode cX4_farOf 7 = .ok (.iload_n 1, 1) := dk_27 (dk_at dksX4_farOf_0 7 rfl rfl)
theorem dX4_farOf_8 : decode cX4_farOf 8 = .ok (.imul, 1) := dk_104 (dk_at dksX4_farOf_0 8 rfl rfl)
theorem dX4_farOf_9 : decode cX4_farOf 9 = .ok (.iadd, 1) := dk_96 (dk_at dksX4_farOf_0 9 rfl rfl)
theorem dX4_farOf_10 : decode cX4_farOf 10 = .ok (.iconst 1, 1) := dk_4 (dk_at dksX4_farOf_0 10 rfl rfl)
theorem dX4_farOf_11 : decode cX4_farOf 11 = .ok (.iadd, 1) := dk_96 (dk_at dksX4_farOf_0 11 rfl rfl)
theorem dX4_farOf_12 : decode cX4_farOf 12 = .ok (.iaload, 1) := dk_46 (dk_at dksX4_farOf_0 12 rfl rfl)
theorem dX4_farOf_13 : decode cX4_farOf 13 = .ok (.ireturn, 1) := dk_172 (dk_at dksX4_farOf_0 13 rfl rfl)
abbrev cX4_isNight : ByteArray := prog_20_method_55_code
def yX4_isNight : MethodName := ⟨RX4, "isNight", "()Z"⟩
def dkwX4_isNight_2 : List UInt8 := [4, 167, 0, 4, 3, 172]
abbrev dktX4_isNight_2 : List UInt8 := dkwX4_isNight_2 ++ []
def dkwX4_isNight_1 : List UInt8 := [46, 155, 0, 27, 27, 42, 180, 0, 39, 7, 46, 161, 0, 17, 27, 42, 180, 0, 39, 8, 46, 163, 0, 7]
abbrev dktX4_isNight_1 : List UInt8 := dkwX4_isNight_1 ++ dktX4_isNight_2
def dkwX4_isNight_0 : List UInt8 := [42, 180, 0, 39, 6, 46, 16, 24, 112, 60, 42, 180, 0, 39, 3, 46, 158, 0, 36, 42, 180, 0, 39, 7]
abbrev dktX4_isNight_0 : List UInt8 := dkwX4_isNight_0 ++ dktX4_isNight_1
theorem dksX4_isNight_0 : cX4_isNight.data.toList.drop 0 = dktX4_isNight_0 := by decide +kernel
theorem dksX4_isNight_1 : cX4_isNight.data.toList.drop 24 = dktX4_isNight_1 := dk_seg dksX4_isNight_0 24 rfl rfl
theorem dksX4_isNight_2 : cX4_isNight.data.toList.drop 48 = dktX4_isNight_2 := dk_seg dksX4_isNight_1 24 rfl rfl
theorem dX4_isNight_0 : decode cX4_isNight 0 = .ok (.aload_n 0, 1) := dk_42 (dk_at dksX4_isNight_0 0 rfl rfl)
theorem dX4_isNight_1 : decode cX4_isNight 1 = .ok (.getfield 39, 3) := dk_180 0 39 (dk_at dksX4_isNight_0 1 rfl rfl)
theorem dX4_isNight_4 : decode cX4_isNight 4 = .ok (.iconst 3, 1) := dk_6 (dk_at dksX4_isNight_0 4 rfl rfl)
theorem dX4_isNight_5 : decode cX4_isNight 5 = .ok (.iaload, 1) := dk_46 (dk_at dksX4_isNight_0 5 rfl rfl)
theorem dX4_isNight_6 : decode cX4_isNight 6 = .ok (.bipush 24, 2) := dk_16 24 (dk_at dksX4_isNight_0 6 rfl rfl)
theorem dX4_isNight_8 : decode cX4_isNight 8 = .ok (.irem, 1) := dk_112 (dk_at dksX4_isNight_0 8 rfl rfl)
theorem dX4_isNight_9 : decode cX4_isNight 9 = .ok (.istore_n 1, 1) := dk_60 (dk_at dksX4_isNight_0 9 rfl rfl)
theorem dX4_isNight_10 : decode cX4_isNight 10 = .ok (.aload_n 0, 1) := dk_42 (dk_at dksX4_isNight_0 10 rfl rfl)
theorem dX4_isNight_11 : decode cX4_isNight 11 = .ok (.getfield 39, 3) := dk_180 0 39 (dk_at dksX4_isNight_0 11 rfl rfl)
theorem dX4_isNight_14 : decode cX4_isNight 14 = .ok (.iconst 0, 1) := dk_3 (dk_at dksX4_isNight_0 14 rfl rfl)
theorem dX4_isNight_15 : decode cX4_isNight 15 = .ok (.iaload, 1) := dk_46 (dk_at dksX4_isNight_0 15 rfl rfl)
theorem dX4_isNight_16 : decode cX4_isNight 16 = .ok (.ifCond .le 36, 3) := dk_158 0 36 (dk_at dksX4_isNight_0 16 rfl rfl)
theorem dX4_isNight_19 : decode cX4_isNight 19 = .ok (.aload_n 0, 1) := dk_42 (dk_at dksX4_isNight_0 19 rfl rfl)
theorem dX4_isNight_20 : decode cX4_isNight 20 = .ok (.getfield 39, 3) := dk_180 0 39 (dk_at dksX4_isNight_0 20 rfl rfl)
theorem dX4_isNight_23 : decode cX4_isNight 23 = .ok (.iconst 4, 1) := dk_7 (dk_at dksX4_isNight_0 23 rfl rfl)
theorem dX4_isNight_24 : decode cX4_isNight 24 = .ok (.iaload, 1) := dk_46 (dk_at dksX4_isNight_1 0 rfl rfl)
theorem dX4_isNight_25 : decode cX4_isNight 25 = .ok (.ifCond .lt 27, 3) := dk_155 0 27 (dk_at dksX4_isNight_1 1 rfl rfl)
theorem dX4_isNight_28 : decode cX4_isNight 28 = .ok (.iload_n 1, 1) := dk_27 (dk_at dksX4_isNight_1 4 rfl rfl)
theorem dX4_isNight_29 : decode cX4_isNight 29 = .ok (.aload_n 0, 1) := dk_42 (dk_at dksX4_isNight_1 5 rfl rfl)
theorem dX4_isNight_30 : decode cX4_isNight 30 = .ok (.getfield 39, 3) := dk_180 0 39 (dk_at dksX4_isNight_1 6 rfl rfl)
theorem dX4_isNight_33 : decode cX4_isNight 33 = .ok (.iconst 4, 1) := dk_7 (dk_at dksX4_isNight_1 9 rfl rfl)
theorem dX4_isNight_34 : decode cX4_isNight 34 = .ok (.iaload, 1) := dk_46 (dk_at dksX4_isNight_1 10 rfl rfl)
theorem dX4_isNight_35 : decode cX4_isNight 35 = .ok (.if_icmp .lt 17, 3) := dk_161 0 17 (dk_at dksX4_isNight_1 11 rfl rfl)
theorem dX4_isNight_38 : decode cX4_isNight 38 = .ok (.iload_n 1, 1) := dk_27 (dk_at dksX4_isNight_1 14 rfl rfl)
theorem dX4_isNight_39 : decode cX4_isNight 39 = .ok (.aload_n 0, 1) := dk_42 (dk_at dksX4_isNight_1 15 rfl rfl)
theorem dX4_isNight_40 : decode cX4_isNight 40 = .ok (.getfield 39, 3) := dk_180 0 39 (dk_at dksX4_isNight_1 16 rfl rfl)
theorem dX4_isNight_43 : decode cX4_isNight 43 = .ok (.iconst 5, 1) := dk_8 (dk_at dksX4_isNight_1 19 rfl rfl)
theorem dX4_isNight_44 : decode cX4_isNight 44 = .ok (.iaload, 1) := dk_46 (dk_at dksX4_isNight_1 20 rfl rfl)
theorem dX4_isNight_45 : decode cX4_isNight 45 = .ok (.if_icmp .gt 7, 3) := dk_163 0 7 (dk_at dksX4_isNight_1 21 rfl rfl)
theorem dX4_isNight_48 : decode cX4_isNight 48 = .ok (.iconst 1, 1) := dk_4 (dk_at dksX4_isNight_2 0 rfl rfl)
theorem dX4_isNight_49 : decode cX4_isNight 49 = .ok (.goto 4, 3) := dk_167 0 4 (dk_at dksX4_isNight_2 1 rfl rfl)
theorem dX4_isNight_52 : decode cX4_isNight 52 = .ok (.iconst 0, 1) := dk_3 (dk_at dksX4_isNight_2 4 rfl rfl)
theorem dX4_isNight_53 : decode cX4_isNight 53 = .ok (.ireturn, 1) := dk_172 (dk_at dksX4_isNight_2 5 rfl rfl)
abbrev cX4_stepOf : ByteArray := prog_20_method_60_code
def yX4_stepOf : MethodName := ⟨RX4, "stepOf", "(I)I"⟩
def dkwX4_stepOf_5 : List UInt8 := [155, 0, 10, 21, 6, 21, 4, 162, 0, 7, 21, 6, 54, 4, 132, 5, 1, 167, 255, 154, 21, 4, 172]
abbrev dktX4_stepOf_5 : List UInt8 := dkwX4_stepOf_5 ++ []
def dkwX4_stepOf_4 : List UInt8 := [21, 5, 182, 1, 45, 54, 6, 42, 180, 0, 46, 21, 6, 46, 29, 4, 100, 160, 0, 19, 21, 4]
abbrev dktX4_stepOf_4 : List UInt8 := dkwX4_stepOf_4 ++ dktX4_stepOf_5
def dkwX4_stepOf_3 : List UInt8 := [167, 0, 59, 42, 21, 5, 182, 1, 45, 28, 160, 0, 12, 42, 21, 5, 182, 1, 48, 167, 0, 9, 42]
abbrev dktX4_stepOf_3 : List UInt8 := dkwX4_stepOf_3 ++ dktX4_stepOf_4
def dkwX4_stepOf_2 : List UInt8 := [153, 0, 82, 42, 21, 5, 182, 1, 45, 28, 159, 0, 16, 42, 21, 5, 182, 1, 48, 28, 159, 0, 6]
abbrev dktX4_stepOf_2 : List UInt8 := dkwX4_stepOf_2 ++ dktX4_stepOf_3
def dkwX4_stepOf_1 : List UInt8 := [172, 2, 54, 4, 3, 54, 5, 21, 5, 42, 180, 0, 39, 4, 46, 162, 0, 97, 42, 21, 5, 182, 1, 54]
abbrev dktX4_stepOf_1 : List UInt8 := dkwX4_stepOf_1 ++ dktX4_stepOf_2
def dkwX4_stepOf_0 : List UInt8 := [42, 27, 3, 182, 1, 23, 61, 42, 27, 182, 1, 63, 62, 29, 153, 0, 9, 29, 16, 99, 160, 0, 5, 2]
abbrev dktX4_stepOf_0 : List UInt8 := dkwX4_stepOf_0 ++ dktX4_stepOf_1
theorem dksX4_stepOf_0 : cX4_stepOf.data.toList.drop 0 = dktX4_stepOf_0 := by decide +kernel
theorem dksX4_stepOf_1 : cX4_stepOf.data.toList.drop 24 = dktX4_stepOf_1 := dk_seg dksX4_stepOf_0 24 rfl rfl
theorem dksX4_stepOf_2 : cX4_stepOf.data.toList.drop 48 = dktX4_stepOf_2 := dk_seg dksX4_stepOf_1 24 rfl rfl
theorem dksX4_stepOf_3 : cX4_stepOf.data.toList.drop 71 = dktX4_stepOf_3 := dk_seg dksX4_stepOf_2 23 rfl rfl
theorem dksX4_stepOf_4 : cX4_stepOf.data.toList.drop 94 = dktX4_stepOf_4 := dk_seg dksX4_stepOf_3 23 rfl rfl
theorem dksX4_stepOf_5 : cX4_stepOf.data.toList.drop 116 = dktX4_stepOf_5 := dk_seg dksX4_stepOf_4 22 rfl rfl
theorem dX4_stepOf_0 : decode cX4_stepOf 0 = .ok (.aload_n 0, 1) := dk_42 (dk_at dksX4_stepOf_0 0 rfl rfl)
theorem dX4_stepOf_1 : decode cX4_stepOf 1 = .ok (.iload_n 1, 1) := dk_27 (dk_at dksX4_stepOf_0 1 rfl rfl)
theorem dX4_stepOf_2 : decode cX4_stepOf 2 = .ok (.iconst 0, 1) := dk_3 (dk_at dksX4_stepOf_0 2 rfl rfl)
theorem dX4_stepOf_3 : decode cX4_stepOf 3 = .ok (.invokevirtual 279, 3) := dk_182 1 23 (dk_at dksX4_stepOf_0 3 rfl rfl)
theorem dX4_stepOf_6 : decode cX4_stepOf 6 = .ok (.istore_n 2, 1) := dk_61 (dk_at dksX4_stepOf_0 6 rfl rfl)
theorem dX4_stepOf_7 : decode cX4_stepOf 7 = .ok (.aload_n 0, 1) := dk_42 (dk_at dksX4_stepOf_0 7 rfl rfl)
theorem dX4_stepOf_8 : decode cX4_stepOf 8 = .ok (.iload_n 1, 1) := dk_27 (dk_at dksX4_stepOf_0 8 rfl rfl)
theorem dX4_stepOf_9 : decode cX4_stepOf 9 = .ok (.invokevirtual 319, 3) := dk_182 1 63 (dk_at dksX4_stepOf_0 9 rfl rfl)
theorem dX4_stepOf_12 : decode cX4_stepOf 12 = .ok (.istore_n 3, 1) := dk_62 (dk_at dksX4_stepOf_0 12 rfl rfl)
theorem dX4_stepOf_13 : decode cX4_stepOf 13 = .ok (.iload_n 3, 1) := dk_29 (dk_at dksX4_stepOf_0 13 rfl rfl)
theorem dX4_stepOf_14 : decode cX4_stepOf 14 = .ok (.ifCond .eq 9, 3) := dk_153 0 9 (dk_at dksX4_stepOf_0 14 rfl rfl)
theorem dX4_stepOf_17 : decode cX4_stepOf 17 = .ok (.iload_n 3, 1) := dk_29 (dk_at dksX4_stepOf_0 17 rfl rfl)
theorem dX4_stepOf_18 : decode cX4_stepOf 18 = .ok (.bipush 99, 2) := dk_16 99 (dk_at dksX4_stepOf_0 18 rfl rfl)
theorem dX4_stepOf_20 : decode cX4_stepOf 20 = .ok (.if_icmp .ne 5, 3) := dk_160 0 5 (dk_at dksX4_stepOf_0 20 rfl rfl)
theorem dX4_stepOf_23 : decode cX4_stepOf 23 = .ok (.iconst (-1), 1) := dk_2 (dk_at dksX4_stepOf_0 23 rfl rfl)
theorem dX4_stepOf_24 : decode cX4_stepOf 24 = .ok (.ireturn, 1) := dk_172 (dk_at dksX4_stepOf_1 0 rfl rfl)
theorem dX4_stepOf_25 : decode cX4_stepOf 25 = .ok (.iconst (-1), 1) := dk_2 (dk_at dksX4_stepOf_1 1 rfl rfl)
theorem dX4_stepOf_26 : decode cX4_stepOf 26 = .ok (.istore 4, 2) := dk_54 4 (dk_at dksX4_stepOf_1 2 rfl rfl)
theorem dX4_stepOf_28 : decode cX4_stepOf 28 = .ok (.iconst 0, 1) := dk_3 (dk_at dksX4_stepOf_1 4 rfl rfl)
theorem dX4_stepOf_29 : decode cX4_stepOf 29 = .ok (.istore 5, 2) := dk_54 5 (dk_at dksX4_stepOf_1 5 rfl rfl)
theorem dX4_stepOf_31 : decode cX4_stepOf 31 = .ok (.iload 5, 2) := dk_21 5 (dk_at dksX4_stepOf_1 7 rfl rfl)
theorem dX4_stepOf_33 : decode cX4_stepOf 33 = .ok (.aload_n 0, 1) := dk_42 (dk_at dksX4_stepOf_1 9 rfl rfl)
theorem dX4_stepOf_34 : decode cX4_stepOf 34 = .ok (.getfield 39, 3) := dk_180 0 39 (dk_at dksX4_stepOf_1 10 rfl rfl)
theorem dX4_stepOf_37 : decode cX4_stepOf 37 = .ok (.iconst 1, 1) := dk_4 (dk_at dksX4_stepOf_1 13 rfl rfl)
theorem dX4_stepOf_38 : decode cX4_stepOf 38 = .ok (.iaload, 1) := dk_46 (dk_at dksX4_stepOf_1 14 rfl rfl)
theorem dX4_stepOf_39 : decode cX4_stepOf 39 = .ok (.if_icmp .ge 97, 3) := dk_162 0 97 (dk_at dksX4_stepOf_1 15 rfl rfl)
theorem dX4_stepOf_42 : decode cX4_stepOf 42 = .ok (.aload_n 0, 1) := dk_42 (dk_at dksX4_stepOf_1 18 rfl rfl)
theorem dX4_stepOf_43 : decode cX4_stepOf 43 = .ok (.iload 5, 2) := dk_21 5 (dk_at dksX4_stepOf_1 19 rfl rfl)
theorem dX4_stepOf_45 : decode cX4_stepOf 45 = .ok (.invokevirtual 310, 3) := dk_182 1 54 (dk_at dksX4_stepOf_1 21 rfl rfl)
theorem dX4_stepOf_48 : decode cX4_stepOf 48 = .ok (.ifCond .eq 82, 3) := dk_153 0 82 (dk_at dksX4_stepOf_2 0 rfl rfl)
theorem dX4_stepOf_51 : decode cX4_stepOf 51 = .ok (.aload_n 0, 1) := dk_42 (dk_at dksX4_stepOf_2 3 rfl rfl)
theorem dX4_stepOf_52 : decode cX4_stepOf 52 = .ok (.iload 5, 2) := dk_21 5 (dk_at dksX4_stepOf_2 4 rfl rfl)
theorem dX4_stepOf_54 : decode cX4_stepOf 54 = .ok (.invokevirtual 301, 3) := dk_182 1 45 (dk_at dksX4_stepOf_2 6 rfl rfl)
theorem dX4_stepOf_57 : decode cX4_stepOf 57 = .ok (.iload_n 2, 1) := dk_28 (dk_at dksX4_stepOf_2 9 rfl rfl)
theorem dX4_stepOf_58 : decode cX4_stepOf 58 = .ok (.if_icmp .eq 16, 3) := dk_159 0 16 (dk_at dksX4_stepOf_2 10 rfl rfl)
theorem dX4_stepOf_61 : decode cX4_stepOf 61 = .ok (.aload_n 0, 1) := dk_42 (dk_at dksX4_stepOf_2 13 rfl rfl)
theorem dX4_stepOf_62 : decode cX4_stepOf 62 = .ok (.iload 5, 2) := dk_21 5 (dk_at dksX4_stepOf_2 14 rfl rfl)
theorem dX4_stepOf_64 : decode cX4_stepOf 64 = .ok (.invokevirtual 304, 3) := dk_182 1 48 (dk_at dksX4_stepOf_2 16 rfl rfl)
theorem dX4_stepOf_67 : decode cX4_stepOf 67 = .ok (.iload_n 2, 1) := dk_28 (dk_at dksX4_stepOf_2 19 rfl rfl)
theorem dX4_stepOf_68 : decode cX4_stepOf 68 = .ok (.if_icmp .eq 6, 3) := dk_159 0 6 (dk_at dksX4_stepOf_2 20 rfl rfl)
theorem dX4_stepOf_71 : decode cX4_stepOf 71 = .ok (.goto 59, 3) := dk_167 0 59 (dk_at dksX4_stepOf_3 0 rfl rfl)
theorem dX4_stepOf_74 : decode cX4_stepOf 74 = .ok (.aload_n 0, 1) := dk_42 (dk_at dksX4_stepOf_3 3 rfl rfl)
theorem dX4_stepOf_75 : decode cX4_stepOf 75 = .ok (.iload 5, 2) := dk_21 5 (dk_at dksX4_stepOf_3 4 rfl rfl)
theorem dX4_stepOf_77 : decode cX4_stepOf 77 = .ok (.invokevirtual 301, 3) := dk_182 1 45 (dk_at dksX4_stepOf_3 6 rfl rfl)
theorem dX4_stepOf_80 : decode cX4_stepOf 80 = .ok (.iload_n 2, 1) := dk_28 (dk_at dksX4_stepOf_3 9 rfl rfl)
theorem dX4_stepOf_81 : decode cX4_stepOf 81 = .ok (.if_icmp .ne 12, 3) := dk_160 0 12 (dk_at dksX4_stepOf_3 10 rfl rfl)
theorem dX4_stepOf_84 : decode cX4_stepOf 84 = .ok (.aload_n 0, 1) := dk_42 (dk_at dksX4_stepOf_3 13 rfl rfl)
theorem dX4_stepOf_85 : decode cX4_stepOf 85 = .ok (.iload 5, 2) := dk_21 5 (dk_at dksX4_stepOf_3 14 rfl rfl)
theorem dX4_stepOf_87 : decode cX4_stepOf 87 = .ok (.invokevirtual 304, 3) := dk_182 1 48 (dk_at dksX4_stepOf_3 16 rfl rfl)
theorem dX4_stepOf_90 : decode cX4_stepOf 90 = .ok (.goto 9, 3) := dk_167 0 9 (dk_at dksX4_stepOf_3 19 rfl rfl)
theorem dX4_stepOf_93 : decode cX4_stepOf 93 = .ok (.aload_n 0, 1) := dk_42 (dk_at dksX4_stepOf_3 22 rfl rfl)
theorem dX4_stepOf_94 : decode cX4_stepOf 94 = .ok (.iload 5, 2) := dk_21 5 (dk_at dksX4_stepOf_4 0 rfl rfl)
theorem dX4_stepOf_96 : decode cX4_stepOf 96 = .ok (.invokevirtual 301, 3) := dk_182 1 45 (dk_at dksX4_stepOf_4 2 rfl rfl)
theorem dX4_stepOf_99 : decode cX4_stepOf 99 = .ok (.istore 6, 2) := dk_54 6 (dk_at dksX4_stepOf_4 5 rfl rfl)
theorem dX4_stepOf_101 : decode cX4_stepOf 101 = .ok (.aload_n 0, 1) := dk_42 (dk_at dksX4_stepOf_4 7 rfl rfl)
theorem dX4_stepOf_102 : decode cX4_stepOf 102 = .ok (.getfield 46, 3) := dk_180 0 46 (dk_at dksX4_stepOf_4 8 rfl rfl)
theorem dX4_stepOf_105 : decode cX4_stepOf 105 = .ok (.iload 6, 2) := dk_21 6 (dk_at dksX4_stepOf_4 11 rfl rfl)
theorem dX4_stepOf_107 : decode cX4_stepOf 107 = .ok (.iaload, 1) := dk_46 (dk_at dksX4_stepOf_4 13 rfl rfl)
theorem dX4_stepOf_108 : decode cX4_stepOf 108 = .ok (.iload_n 3, 1) := dk_29 (dk_at dksX4_stepOf_4 14 rfl rfl)
theorem dX4_stepOf_109 : decode cX4_stepOf 109 = .ok (.iconst 1, 1) := dk_4 (dk_at dksX4_stepOf_4 15 rfl rfl)
theorem dX4_stepOf_110 : decode cX4_stepOf 110 = .ok (.isub, 1) := dk_100 (dk_at dksX4_stepOf_4 16 rfl rfl)
theorem dX4_stepOf_111 : decode cX4_stepOf 111 = .ok (.if_icmp .ne 19, 3) := dk_160 0 19 (dk_at dksX4_stepOf_4 17 rfl rfl)
theorem dX4_stepOf_114 : decode cX4_stepOf 114 = .ok (.iload 4, 2) := dk_21 4 (dk_at dksX4_stepOf_4 20 rfl rfl)
theorem dX4_stepOf_116 : decode cX4_stepOf 116 = .ok (.ifCond .lt 10, 3) := dk_155 0 10 (dk_at dksX4_stepOf_5 0 rfl rfl)
theorem dX4_stepOf_119 : decode cX4_stepOf 119 = .ok (.iload 6, 2) := dk_21 6 (dk_at dksX4_stepOf_5 3 rfl rfl)
theorem dX4_stepOf_121 : decode cX4_stepOf 121 = .ok (.iload 4, 2) := dk_21 4 (dk_at dksX4_stepOf_5 5 rfl rfl)
theorem dX4_stepOf_123 : decode cX4_stepOf 123 = .ok (.if_icmp .ge 7, 3) := dk_162 0 7 (dk_at dksX4_stepOf_5 7 rfl rfl)
theorem dX4_stepOf_126 : decode cX4_stepOf 126 = .ok (.iload 6, 2) := dk_21 6 (dk_at dksX4_stepOf_5 10 rfl rfl)
theorem dX4_stepOf_128 : decode cX4_stepOf 128 = .ok (.istore 4, 2) := dk_54 4 (dk_at dksX4_stepOf_5 12 rfl rfl)
theorem dX4_stepOf_130 : decode cX4_stepOf 130 = .ok (.iinc 5 1, 3) := dk_132 5 1 (dk_at dksX4_stepOf_5 14 rfl rfl)
theorem dX4_stepOf_133 : decode cX4_stepOf 133 = .ok (.goto (-102), 3) := dk_167 255 154 (dk_at dksX4_stepOf_5 17 rfl rfl)
theorem dX4_stepOf_136 : decode cX4_stepOf 136 = .ok (.iload 4, 2) := dk_21 4 (dk_at dksX4_stepOf_5 20 rfl rfl)
theorem dX4_stepOf_138 : decode cX4_stepOf 138 = .ok (.ireturn, 1) := dk_172 (dk_at dksX4_stepOf_5 22 rfl rfl)
abbrev cX4_room : ByteArray := prog_20_method_66_code
def yX4_room : MethodName := ⟨RX4, "room", "(II)I"⟩
def dkwX4_room_2 : List UInt8 := [182, 1, 85, 167, 0, 8, 42, 27, 182, 1, 88, 172]
abbrev dktX4_room_2 : List UInt8 := dkwX4_room_2 ++ []
def dkwX4_room_1 : List UInt8 := [154, 0, 15, 42, 180, 0, 39, 16, 34, 27, 96, 46, 167, 0, 21, 28, 4, 160, 0, 11, 42, 27]
abbrev dktX4_room_1 : List UInt8 := dkwX4_room_1 ++ dktX4_room_2
def dkwX4_room_0 : List UInt8 := [42, 27, 182, 1, 80, 153, 0, 15, 28, 133, 9, 20, 1, 83, 184, 0, 128, 154, 0, 5, 2, 172, 28]
abbrev dktX4_room_0 : List UInt8 := dkwX4_room_0 ++ dktX4_room_1
theorem dksX4_room_0 : cX4_room.data.toList.drop 0 = dktX4_room_0 := by decide +kernel
theorem dksX4_room_1 : cX4_room.data.toList.drop 23 = dktX4_room_1 := dk_seg dksX4_room_0 23 rfl rfl
theorem dksX4_room_2 : cX4_room.data.toList.drop 45 = dktX4_room_2 := dk_seg dksX4_room_1 22 rfl rfl
theorem dX4_room_0 : decode cX4_room 0 = .ok (.aload_n 0, 1) := dk_42 (dk_at dksX4_room_0 0 rfl rfl)
theorem dX4_room_1 : decode cX4_room 1 = .ok (.iload_n 1, 1) := dk_27 (dk_at dksX4_room_0 1 rfl rfl)
theorem dX4_room_2 : decode cX4_room 2 = .ok (.invokevirtual 336, 3) := dk_182 1 80 (dk_at dksX4_room_0 2 rfl rfl)
theorem dX4_room_5 : decode cX4_room 5 = .ok (.ifCond .eq 15, 3) := dk_153 0 15 (dk_at dksX4_room_0 5 rfl rfl)
theorem dX4_room_8 : decode cX4_room 8 = .ok (.iload_n 2, 1) := dk_28 (dk_at dksX4_room_0 8 rfl rfl)
theorem dX4_room_9 : decode cX4_room 9 = .ok (.i2l, 1) := dk_133 (dk_at dksX4_room_0 9 rfl rfl)
theorem dX4_room_10 : decode cX4_room 10 = .ok (.lconst 0, 1) := dk_9 (dk_at dksX4_room_0 10 rfl rfl)
theorem dX4_room_11 : decode cX4_room 11 = .ok (.ldc2_w 339, 3) := dk_20 1 83 (dk_at dksX4_room_0 11 rfl rfl)
theorem dX4_room_14 : decode cX4_room 14 = .ok (.invokestatic 128, 3) := dk_184 0 128 (dk_at dksX4_room_0 14 rfl rfl)
theorem dX4_room_17 : decode cX4_room 17 = .ok (.ifCond .ne 5, 3) := dk_154 0 5 (dk_at dksX4_room_0 17 rfl rfl)
theorem dX4_room_20 : decode cX4_room 20 = .ok (.iconst (-1), 1) := dk_2 (dk_at dksX4_room_0 20 rfl rfl)
theorem dX4_room_21 : decode cX4_room 21 = .ok (.ireturn, 1) := dk_172 (dk_at dksX4_room_0 21 rfl rfl)
theorem dX4_room_22 : decode cX4_room 22 = .ok (.iload_n 2, 1) := dk_28 (dk_at dksX4_room_0 22 rfl rfl)
theorem dX4_room_23 : decode cX4_room 23 = .ok (.ifCond .ne 15, 3) := dk_154 0 15 (dk_at dksX4_room_1 0 rfl rfl)
theorem dX4_room_26 : decode cX4_room 26 = .ok (.aload_n 0, 1) := dk_42 (dk_at dksX4_room_1 3 rfl rfl)
theorem dX4_room_27 : decode cX4_room 27 = .ok (.getfield 39, 3) := dk_180 0 39 (dk_at dksX4_room_1 4 rfl rfl)
theorem dX4_room_30 : decode cX4_room 30 = .ok (.bipush 34, 2) := dk_16 34 (dk_at dksX4_room_1 7 rfl rfl)
theorem dX4_room_32 : decode cX4_room 32 = .ok (.iload_n 1, 1) := dk_27 (dk_at dksX4_room_1 9 rfl rfl)
theorem dX4_room_33 : decode cX4_room 33 = .ok (.iadd, 1) := dk_96 (dk_at dksX4_room_1 10 rfl rfl)
theorem dX4_room_34 : decode cX4_room 34 = .ok (.iaload, 1) := dk_46 (dk_at dksX4_room_1 11 rfl rfl)
theorem dX4_room_35 : decode cX4_room 35 = .ok (.goto 21, 3) := dk_167 0 21 (dk_at dksX4_room_1 12 rfl rfl)
theorem dX4_room_38 : decode cX4_room 38 = .ok (.iload_n 2, 1) := dk_28 (dk_at dksX4_room_1 15 rfl rfl)
theorem dX4_room_39 : decode cX4_room 39 = .ok (.iconst 1, 1) := dk_4 (dk_at dksX4_room_1 16 rfl rfl)
theorem dX4_room_40 : decode cX4_room 40 = .ok (.if_icmp .ne 11, 3) := dk_160 0 11 (dk_at dksX4_room_1 17 rfl rfl)
theorem dX4_room_43 : decode cX4_room 43 = .ok (.aload_n 0, 1) := dk_42 (dk_at dksX4_room_1 20 rfl rfl)
theorem dX4_room_44 : decode cX4_room 44 = .ok (.iload_n 1, 1) := dk_27 (dk_at dksX4_room_1 21 rfl rfl)
theorem dX4_room_45 : decode cX4_room 45 = .ok (.invokevirtual 341, 3) := dk_182 1 85 (dk_at dksX4_room_2 0 rfl rfl)
theorem dX4_room_48 : decode cX4_room 48 = .ok (.goto 8, 3) := dk_167 0 8 (dk_at dksX4_room_2 3 rfl rfl)
theorem dX4_room_51 : decode cX4_room 51 = .ok (.aload_n 0, 1) := dk_42 (dk_at dksX4_room_2 6 rfl rfl)
theorem dX4_room_52 : decode cX4_room 52 = .ok (.iload_n 1, 1) := dk_27 (dk_at dksX4_room_2 7 rfl rfl)
theorem dX4_room_53 : decode cX4_room 53 = .ok (.invokevirtual 344, 3) := dk_182 1 88 (dk_at dksX4_room_2 8 rfl rfl)
theorem dX4_room_56 : decode cX4_room 56 = .ok (.ireturn, 1) := dk_172 (dk_at dksX4_room_2 11 rfl rfl)
abbrev cX4_isRoom : ByteArray := prog_20_method_50_code
def yX4_isRoom : MethodName := ⟨RX4, "isRoom", "(I)Z"⟩
def dkwX4_isRoom_0 : List UInt8 := [27, 155, 0, 17, 27, 42, 180, 0, 39, 3, 46, 162, 0, 7, 4, 167, 0, 4, 3, 172]
abbrev dktX4_isRoom_0 : List UInt8 := dkwX4_isRoom_0 ++ []
theorem dksX4_isRoom_0 : cX4_isRoom.data.toList.drop 0 = dktX4_isRoom_0 := by decide +kernel
theorem dX4_isRoom_0 : decode cX4_isRoom 0 = .ok (.iload_n 1, 1) := dk_27 (dk_at dksX4_isRoom_0 0 rfl rfl)
theorem dX4_isRoom_1 : decode cX4_isRoom 1 = .ok (.ifCond .lt 17, 3) := dk_155 0 17 (dk_at dksX4_isRoom_0 1 rfl rfl)
theorem dX4_isRoom_4 : decode cX4_isRoom 4 = .ok (.iload_n 1, 1) := dk_27 (dk_at dksX4_isRoom_0 4 rfl rfl)
theorem dX4_isRoom_5 : decode cX4_isRoom 5 = .ok (.aload_n 0, 1) := dk_42 (dk_at dksX4_isRoom_0 5 rfl rfl)
theorem dX4_isRoom_6 : decode cX4_isRoom 6 = .ok (.getfield 39, 3) := dk_180 0 39 (dk_at dksX4_isRoom_0 6 rfl rfl)
theorem dX4_isRoom_9 : decode cX4_isRoom 9 = .ok (.iconst 0, 1) := dk_3 (dk_at dksX4_isRoom_0 9 rfl rfl)
theorem dX4_isRoom_10 : decode cX4_isRoom 10 = .ok (.iaload, 1) := dk_46 (dk_at dksX4_isRoom_0 10 rfl rfl)
theorem dX4_isRoom_11 : decode cX4_isRoom 11 = .ok (.if_icmp .ge 7, 3) := dk_162 0 7 (dk_at dksX4_isRoom_0 11 rfl rfl)
theorem dX4_isRoom_14 : decode cX4_isRoom 14 = .ok (.iconst 1, 1) := dk_4 (dk_at dksX4_isRoom_0 14 rfl rfl)
theorem dX4_isRoom_15 : decode cX4_isRoom 15 = .ok (.goto 4, 3) := dk_167 0 4 (dk_at dksX4_isRoom_0 15 rfl rfl)
theorem dX4_isRoom_18 : decode cX4_isRoom 18 = .ok (.iconst 0, 1) := dk_3 (dk_at dksX4_isRoom_0 18 rfl rfl)
theorem dX4_isRoom_19 : decode cX4_isRoom 19 = .ok (.ireturn, 1) := dk_172 (dk_at dksX4_isRoom_0 19 rfl rfl)
abbrev cX4_peopleIn : ByteArray := prog_20_method_62_code
def yX4_peopleIn : MethodName := ⟨RX4, "peopleIn", "(I)I"⟩
def dkwX4_peopleIn_1 : List UInt8 := [160, 0, 9, 4, 29, 120, 167, 0, 4, 3, 128, 61, 132, 3, 1, 167, 255, 223, 28, 172]
abbrev dktX4_peopleIn_1 : List UInt8 := dkwX4_peopleIn_1 ++ []
def dkwX4_peopleIn_0 : List UInt8 := [3, 61, 3, 62, 29, 42, 180, 0, 39, 5, 46, 162, 0, 29, 28, 42, 29, 3, 182, 1, 23, 27]
abbrev dktX4_peopleIn_0 : List UInt8 := dkwX4_peopleIn_0 ++ dktX4_peopleIn_1
theorem dksX4_peopleIn_0 : cX4_peopleIn.data.toList.drop 0 = dktX4_peopleIn_0 := by decide +kernel
theorem dksX4_peopleIn_1 : cX4_peopleIn.data.toList.drop 22 = dktX4_peopleIn_1 := dk_seg dksX4_peopleIn_0 22 rfl rfl
theorem dX4_peopleIn_0 : decode cX4_peopleIn 0 = .ok (.iconst 0, 1) := dk_3 (dk_at dksX4_peopleIn_0 0 rfl rfl)
theorem dX4_peopleIn_1 : decode cX4_peopleIn 1 = .ok (.istore_n 2, 1) := dk_61 (dk_at dksX4_peopleIn_0 1 rfl rfl)
theorem dX4_peopleIn_2 : decode cX4_peopleIn 2 = .ok (.iconst 0, 1) := dk_3 (dk_at dksX4_peopleIn_0 2 rfl rfl)
theorem dX4_peopleIn_3 : decode cX4_peopleIn 3 = .ok (.istore_n 3, 1) := dk_62 (dk_at dksX4_peopleIn_0 3 rfl rfl)
theorem dX4_peopleIn_4 : decode cX4_peopleIn 4 = .ok (.iload_n 3, 1) := dk_29 (dk_at dksX4_peopleIn_0 4 rfl rfl)
theorem dX4_peopleIn_5 : decode cX4_peopleIn 5 = .ok (.aload_n 0, 1) := dk_42 (dk_at dksX4_peopleIn_0 5 rfl rfl)
theorem dX4_peopleIn_6 : decode cX4_peopleIn 6 = .ok (.getfield 39, 3) := dk_180 0 39 (dk_at dksX4_peopleIn_0 6 rfl rfl)
theorem dX4_peopleIn_9 : decode cX4_peopleIn 9 = .ok (.iconst 2, 1) := dk_5 (dk_at dksX4_peopleIn_0 9 rfl rfl)
theorem dX4_peopleIn_10 : decode cX4_peopleIn 10 = .ok (.iaload, 1) := dk_46 (dk_at dksX4_peopleIn_0 10 rfl rfl)
theorem dX4_peopleIn_11 : decode cX4_peopleIn 11 = .ok (.if_icmp .ge 29, 3) := dk_162 0 29 (dk_at dksX4_peopleIn_0 11 rfl rfl)
theorem dX4_peopleIn_14 : decode cX4_peopleIn 14 = .ok (.iload_n 2, 1) := dk_28 (dk_at dksX4_peopleIn_0 14 rfl rfl)
theorem dX4_peopleIn_15 : decode cX4_peopleIn 15 = .ok (.aload_n 0, 1) := dk_42 (dk_at dksX4_peopleIn_0 15 rfl rfl)
theorem dX4_peopleIn_16 : decode cX4_peopleIn 16 = .ok (.iload_n 3, 1) := dk_29 (dk_at dksX4_peopleIn_0 16 rfl rfl)
theorem dX4_peopleIn_17 : decode cX4_peopleIn 17 = .ok (.iconst 0, 1) := dk_3 (dk_at dksX4_peopleIn_0 17 rfl rfl)
theorem dX4_peopleIn_18 : decode cX4_peopleIn 18 = .ok (.invokevirtual 279, 3) := dk_182 1 23 (dk_at dksX4_peopleIn_0 18 rfl rfl)
theorem dX4_peopleIn_21 : decode cX4_peopleIn 21 = .ok (.iload_n 1, 1) := dk_27 (dk_at dksX4_peopleIn_0 21 rfl rfl)
theorem dX4_peopleIn_22 : decode cX4_peopleIn 22 = .ok (.if_icmp .ne 9, 3) := dk_160 0 9 (dk_at dksX4_peopleIn_1 0 rfl rfl)
theorem dX4_peopleIn_25 : decode cX4_peopleIn 25 = .ok (.iconst 1, 1) := dk_4 (dk_at dksX4_peopleIn_1 3 rfl rfl)
theorem dX4_peopleIn_26 : decode cX4_peopleIn 26 = .ok (.iload_n 3, 1) := dk_29 (dk_at dksX4_peopleIn_1 4 rfl rfl)
theorem dX4_peopleIn_27 : decode cX4_peopleIn 27 = .ok (.ishl, 1) := dk_120 (dk_at dksX4_peopleIn_1 5 rfl rfl)
theorem dX4_peopleIn_28 : decode cX4_peopleIn 28 = .ok (.goto 4, 3) := dk_167 0 4 (dk_at dksX4_peopleIn_1 6 rfl rfl)
theorem dX4_peopleIn_31 : decode cX4_peopleIn 31 = .ok (.iconst 0, 1) := dk_3 (dk_at dksX4_peopleIn_1 9 rfl rfl)
theorem dX4_peopleIn_32 : decode cX4_peopleIn 32 = .ok (.ior, 1) := dk_128 (dk_at dksX4_peopleIn_1 10 rfl rfl)
theorem dX4_peopleIn_33 : decode cX4_peopleIn 33 = .ok (.istore_n 2, 1) := dk_61 (dk_at dksX4_peopleIn_1 11 rfl rfl)
theorem dX4_peopleIn_34 : decode cX4_peopleIn 34 = .ok (.iinc 3 1, 3) := dk_132 3 1 (dk_at dksX4_peopleIn_1 12 rfl rfl)
theorem dX4_peopleIn_37 : decode cX4_peopleIn 37 = .ok (.goto (-33), 3) := dk_167 255 223 (dk_at dksX4_peopleIn_1 15 rfl rfl)
theorem dX4_peopleIn_40 : decode cX4_peopleIn 40 = .ok (.iload_n 2, 1) := dk_28 (dk_at dksX4_peopleIn_1 18 rfl rfl)
theorem dX4_peopleIn_41 : decode cX4_peopleIn 41 = .ok (.ireturn, 1) := dk_172 (dk_at dksX4_peopleIn_1 19 rfl rfl)
abbrev cX4_outsideOf : ByteArray := prog_20_method_63_code
def yX4_outsideOf : MethodName := ⟨RX4, "outsideOf", "(I)I"⟩
def dkwX4_outsideOf_3 : List UInt8 := [167, 255, 194, 28, 4, 27, 120, 2, 130, 126, 172]
abbrev dktX4_outsideOf_3 : List UInt8 := dkwX4_outsideOf_3 ++ []
def dkwX4_outsideOf_2 : List UInt8 := [153, 0, 14, 28, 4, 42, 21, 4, 182, 1, 48, 120, 128, 61, 132, 4, 1, 167, 255, 209, 132, 3, 1]
abbrev dktX4_outsideOf_2 : List UInt8 := dkwX4_outsideOf_2 ++ dktX4_outsideOf_3
def dkwX4_outsideOf_1 : List UInt8 := [162, 0, 42, 42, 21, 4, 182, 1, 54, 153, 0, 27, 28, 42, 21, 4, 182, 1, 45, 184, 1, 66]
abbrev dktX4_outsideOf_1 : List UInt8 := dkwX4_outsideOf_1 ++ dktX4_outsideOf_2
def dkwX4_outsideOf_0 : List UInt8 := [4, 27, 120, 61, 3, 62, 29, 16, 8, 162, 0, 62, 3, 54, 4, 21, 4, 42, 180, 0, 39, 4, 46]
abbrev dktX4_outsideOf_0 : List UInt8 := dkwX4_outsideOf_0 ++ dktX4_outsideOf_1
theorem dksX4_outsideOf_0 : cX4_outsideOf.data.toList.drop 0 = dktX4_outsideOf_0 := by decide +kernel
theorem dksX4_outsideOf_1 : cX4_outsideOf.data.toList.drop 23 = dktX4_outsideOf_1 := dk_seg dksX4_outsideOf_0 23 rfl rfl
theorem dksX4_outsideOf_2 : cX4_outsideOf.data.toList.drop 45 = dktX4_outsideOf_2 := dk_seg dksX4_outsideOf_1 22 rfl rfl
theorem dksX4_outsideOf_3 : cX4_outsideOf.data.toList.drop 68 = dktX4_outsideOf_3 := dk_seg dksX4_outsideOf_2 23 rfl rfl
theorem dX4_outsideOf_0 : decode cX4_outsideOf 0 = .ok (.iconst 1, 1) := dk_4 (dk_at dksX4_outsideOf_0 0 rfl rfl)
theorem dX4_outsideOf_1 : decode cX4_outsideOf 1 = .ok (.iload_n 1, 1) := dk_27 (dk_at dksX4_outsideOf_0 1 rfl rfl)
theorem dX4_outsideOf_2 : decode cX4_outsideOf 2 = .ok (.ishl, 1) := dk_120 (dk_at dksX4_outsideOf_0 2 rfl rfl)
theorem dX4_outsideOf_3 : decode cX4_outsideOf 3 = .ok (.istore_n 2, 1) := dk_61 (dk_at dksX4_outsideOf_0 3 rfl rfl)
theorem dX4_outsideOf_4 : decode cX4_outsideOf 4 = .ok (.iconst 0, 1) := dk_3 (dk_at dksX4_outsideOf_0 4 rfl rfl)
theorem dX4_outsideOf_5 : decode cX4_outsideOf 5 = .ok (.istore_n 3, 1) := dk_62 (dk_at dksX4_outsideOf_0 5 rfl rfl)
theorem dX4_outsideOf_6 : decode cX4_outsideOf 6 = .ok (.iload_n 3, 1) := dk_29 (dk_at dksX4_outsideOf_0 6 rfl rfl)
theorem dX4_outsideOf_7 : decode cX4_outsideOf 7 = .ok (.bipush 8, 2) := dk_16 8 (dk_at dksX4_outsideOf_0 7 rfl rfl)
theorem dX4_outsideOf_9 : decode cX4_outsideOf 9 = .ok (.if_icmp .ge 62, 3) := dk_162 0 62 (dk_at dksX4_outsideOf_0 9 rfl rfl)
theorem dX4_outsideOf_12 : decode cX4_outsideOf 12 = .ok (.iconst 0, 1) := dk_3 (dk_at dksX4_outsideOf_0 12 rfl rfl)
theorem dX4_outsideOf_13 : decode cX4_outsideOf 13 = .ok (.istore 4, 2) := dk_54 4 (dk_at dksX4_outsideOf_0 13 rfl rfl)
theorem dX4_outsideOf_15 : decode cX4_outsideOf 15 = .ok (.iload 4, 2) := dk_21 4 (dk_at dksX4_outsideOf_0 15 rfl rfl)
theorem dX4_outsideOf_17 : decode cX4_outsideOf 17 = .ok (.aload_n 0, 1) := dk_42 (dk_at dksX4_outsideOf_0 17 rfl rfl)
theorem dX4_outsideOf_18 : decode cX4_outsideOf 18 = .ok (.getfield 39, 3) := dk_180 0 39 (dk_at dksX4_outsideOf_0 18 rfl rfl)
theorem dX4_outsideOf_21 : decode cX4_outsideOf 21 = .ok (.iconst 1, 1) := dk_4 (dk_at dksX4_outsideOf_0 21 rfl rfl)
theorem dX4_outsideOf_22 : decode cX4_outsideOf 22 = .ok (.iaload, 1) := dk_46 (dk_at dksX4_outsideOf_0 22 rfl rfl)
theorem dX4_outsideOf_23 : decode cX4_outsideOf 23 = .ok (.if_icmp .ge 42, 3) := dk_162 0 42 (dk_at dksX4_outsideOf_1 0 rfl rfl)
theorem dX4_outsideOf_26 : decode cX4_outsideOf 26 = .ok (.aload_n 0, 1) := dk_42 (dk_at dksX4_outsideOf_1 3 rfl rfl)
theorem dX4_outsideOf_27 : decode cX4_outsideOf 27 = .ok (.iload 4, 2) := dk_21 4 (dk_at dksX4_outsideOf_1 4 rfl rfl)
theorem dX4_outsideOf_29 : decode cX4_outsideOf 29 = .ok (.invokevirtual 310, 3) := dk_182 1 54 (dk_at dksX4_outsideOf_1 6 rfl rfl)
theorem dX4_outsideOf_32 : decode cX4_outsideOf 32 = .ok (.ifCond .eq 27, 3) := dk_153 0 27 (dk_at dksX4_outsideOf_1 9 rfl rfl)
theorem dX4_outsideOf_35 : decode cX4_outsideOf 35 = .ok (.iload_n 2, 1) := dk_28 (dk_at dksX4_outsideOf_1 12 rfl rfl)
theorem dX4_outsideOf_36 : decode cX4_outsideOf 36 = .ok (.aload_n 0, 1) := dk_42 (dk_at dksX4_outsideOf_1 13 rfl rfl)
theorem dX4_outsideOf_37 : decode cX4_outsideOf 37 = .ok (.iload 4, 2) := dk_21 4 (dk_at dksX4_outsideOf_1 14 rfl rfl)
theorem dX4_outsideOf_39 : decode cX4_outsideOf 39 = .ok (.invokevirtual 301, 3) := dk_182 1 45 (dk_at dksX4_outsideOf_1 16 rfl rfl)
theorem dX4_outsideOf_42 : decode cX4_outsideOf 42 = .ok (.invokestatic 322, 3) := dk_184 1 66 (dk_at dksX4_outsideOf_1 19 rfl rfl)
theorem dX4_outsideOf_45 : decode cX4_outsideOf 45 = .ok (.ifCond .eq 14, 3) := dk_153 0 14 (dk_at dksX4_outsideOf_2 0 rfl rfl)
theorem dX4_outsideOf_48 : decode cX4_outsideOf 48 = .ok (.iload_n 2, 1) := dk_28 (dk_at dksX4_outsideOf_2 3 rfl rfl)
theorem dX4_outsideOf_49 : decode cX4_outsideOf 49 = .ok (.iconst 1, 1) := dk_4 (dk_at dksX4_outsideOf_2 4 rfl rfl)
theorem dX4_outsideOf_50 : decode cX4_outsideOf 50 = .ok (.aload_n 0, 1) := dk_42 (dk_at dksX4_outsideOf_2 5 rfl rfl)
theorem dX4_outsideOf_51 : decode cX4_outsideOf 51 = .ok (.iload 4, 2) := dk_21 4 (dk_at dksX4_outsideOf_2 6 rfl rfl)
theorem dX4_outsideOf_53 : decode cX4_outsideOf 53 = .ok (.invokevirtual 304, 3) := dk_182 1 48 (dk_at dksX4_outsideOf_2 8 rfl rfl)
theorem dX4_outsideOf_56 : decode cX4_outsideOf 56 = .ok (.ishl, 1) := dk_120 (dk_at dksX4_outsideOf_2 11 rfl rfl)
theorem dX4_outsideOf_57 : decode cX4_outsideOf 57 = .ok (.ior, 1) := dk_128 (dk_at dksX4_outsideOf_2 12 rfl rfl)
theorem dX4_outsideOf_58 : decode cX4_outsideOf 58 = .ok (.istore_n 2, 1) := dk_61 (dk_at dksX4_outsideOf_2 13 rfl rfl)
theorem dX4_outsideOf_59 : decode cX4_outsideOf 59 = .ok (.iinc 4 1, 3) := dk_132 4 1 (dk_at dksX4_outsideOf_2 14 rfl rfl)
theorem dX4_outsideOf_62 : decode cX4_outsideOf 62 = .ok (.goto (-47), 3) := dk_167 255 209 (dk_at dksX4_outsideOf_2 17 rfl rfl)
theorem dX4_outsideOf_65 : decode cX4_outsideOf 65 = .ok (.iinc 3 1, 3) := dk_132 3 1 (dk_at dksX4_outsideOf_2 20 rfl rfl)
theorem dX4_outsideOf_68 : decode cX4_outsideOf 68 = .ok (.goto (-62), 3) := dk_167 255 194 (dk_at dksX4_outsideOf_3 0 rfl rfl)
theorem dX4_outsideOf_71 : decode cX4_outsideOf 71 = .ok (.iload_n 2, 1) := dk_28 (dk_at dksX4_outsideOf_3 3 rfl rfl)
theorem dX4_outsideOf_72 : decode cX4_outsideOf 72 = .ok (.iconst 1, 1) := dk_4 (dk_at dksX4_outsideOf_3 4 rfl rfl)
theorem dX4_outsideOf_73 : decode cX4_outsideOf 73 = .ok (.iload_n 1, 1) := dk_27 (dk_at dksX4_outsideOf_3 5 rfl rfl)
theorem dX4_outsideOf_74 : decode cX4_outsideOf 74 = .ok (.ishl, 1) := dk_120 (dk_at dksX4_outsideOf_3 6 rfl rfl)
theorem dX4_outsideOf_75 : decode cX4_outsideOf 75 = .ok (.iconst (-1), 1) := dk_2 (dk_at dksX4_outsideOf_3 7 rfl rfl)
theorem dX4_outsideOf_76 : decode cX4_outsideOf 76 = .ok (.ixor, 1) := dk_130 (dk_at dksX4_outsideOf_3 8 rfl rfl)
theorem dX4_outsideOf_77 : decode cX4_outsideOf 77 = .ok (.iand, 1) := dk_126 (dk_at dksX4_outsideOf_3 9 rfl rfl)
theorem dX4_outsideOf_78 : decode cX4_outsideOf 78 = .ok (.ireturn, 1) := dk_172 (dk_at dksX4_outsideOf_3 10 rfl rfl)
abbrev cX4_isOf : ByteArray := prog_20_method_3_code
def yX4_isOf : MethodName := ⟨RX4, "isOf", "(II)Z"⟩
def dkwX4_isOf_0 : List UInt8 := [26, 27, 122, 4, 126, 4, 160, 0, 7, 4, 167, 0, 4, 3, 172]
abbrev dktX4_isOf_0 : List UInt8 := dkwX4_isOf_0 ++ []
theorem dksX4_isOf_0 : cX4_isOf.data.toList.drop 0 = dktX4_isOf_0 := by decide +kernel
theorem dX4_isOf_0 : decode cX4_isOf 0 = .ok (.iload_n 0, 1) := dk_26 (dk_at dksX4_isOf_0 0 rfl rfl)
theorem dX4_isOf_1 : decode cX4_isOf 1 = .ok (.iload_n 1, 1) := dk_27 (dk_at dksX4_isOf_0 1 rfl rfl)
theorem dX4_isOf_2 : decode cX4_isOf 2 = .ok (.ishr, 1) := dk_122 (dk_at dksX4_isOf_0 2 rfl rfl)
theorem dX4_isOf_3 : decode cX4_isOf 3 = .ok (.iconst 1, 1) := dk_4 (dk_at dksX4_isOf_0 3 rfl rfl)
theorem dX4_isOf_4 : decode cX4_isOf 4 = .ok (.iand, 1) := dk_126 (dk_at dksX4_isOf_0 4 rfl rfl)
theorem dX4_isOf_5 : decode cX4_isOf 5 = .ok (.iconst 1, 1) := dk_4 (dk_at dksX4_isOf_0 5 rfl rfl)
theorem dX4_isOf_6 : decode cX4_isOf 6 = .ok (.if_icmp .ne 7, 3) := dk_160 0 7 (dk_at dksX4_isOf_0 6 rfl rfl)
theorem dX4_isOf_9 : decode cX4_isOf 9 = .ok (.iconst 1, 1) := dk_4 (dk_at dksX4_isOf_0 9 rfl rfl)
theorem dX4_isOf_10 : decode cX4_isOf 10 = .ok (.goto 4, 3) := dk_167 0 4 (dk_at dksX4_isOf_0 10 rfl rfl)
theorem dX4_isOf_13 : decode cX4_isOf 13 = .ok (.iconst 0, 1) := dk_3 (dk_at dksX4_isOf_0 13 rfl rfl)
theorem dX4_isOf_14 : decode cX4_isOf 14 = .ok (.ireturn, 1) := dk_172 (dk_at dksX4_isOf_0 14 rfl rfl)
abbrev cX4_door : ByteArray := prog_20_method_67_code
def yX4_door : MethodName := ⟨RX4, "door", "(II)I"⟩
def dkwX4_door_2 : List UInt8 := [153, 0, 7, 4, 167, 0, 4, 3, 172]
abbrev dktX4_door_2 : List UInt8 := dkwX4_door_2 ++ []
def dkwX4_door_1 : List UInt8 := [162, 0, 19, 42, 180, 0, 39, 16, 42, 6, 27, 104, 96, 28, 96, 46, 167, 0, 16, 42, 27, 182, 1, 54]
abbrev dktX4_door_1 : List UInt8 := dkwX4_door_1 ++ dktX4_door_2
def dkwX4_door_0 : List UInt8 := [42, 27, 182, 1, 91, 153, 0, 15, 28, 133, 9, 20, 1, 94, 184, 0, 128, 154, 0, 5, 2, 172, 28, 6]
abbrev dktX4_door_0 : List UInt8 := dkwX4_door_0 ++ dktX4_door_1
theorem dksX4_door_0 : cX4_door.data.toList.drop 0 = dktX4_door_0 := by decide +kernel
theorem dksX4_door_1 : cX4_door.data.toList.drop 24 = dktX4_door_1 := dk_seg dksX4_door_0 24 rfl rfl
theorem dksX4_door_2 : cX4_door.data.toList.drop 48 = dktX4_door_2 := dk_seg dksX4_door_1 24 rfl rfl
theorem dX4_door_0 : decode cX4_door 0 = .ok (.aload_n 0, 1) := dk_42 (dk_at dksX4_door_0 0 rfl rfl)
theorem dX4_door_1 : decode cX4_door 1 = .ok (.iload_n 1, 1) := dk_27 (dk_at dksX4_door_0 1 rfl rfl)
theorem dX4_door_2 : decode cX4_door 2 = .ok (.invokevirtual 347, 3) := dk_182 1 91 (dk_at dksX4_door_0 2 rfl rfl)
theorem dX4_door_5 : decode cX4_door 5 = .ok (.ifCond .eq 15, 3) := dk_153 0 15 (dk_at dksX4_door_0 5 rfl rfl)
theorem dX4_door_8 : decode cX4_door 8 = .ok (.iload_n 2, 1) := dk_28 (dk_at dksX4_door_0 8 rfl rfl)
theorem dX4_door_9 : decode cX4_door 9 = .ok (.i2l, 1) := dk_133 (dk_at dksX4_door_0 9 rfl rfl)
theorem dX4_door_10 : decode cX4_door 10 = .ok (.lconst 0, 1) := dk_9 (dk_at dksX4_door_0 10 rfl rfl)
theorem dX4_door_11 : decode cX4_door 11 = .ok (.ldc2_w 350, 3) := dk_20 1 94 (dk_at dksX4_door_0 11 rfl rfl)
theorem dX4_door_14 : decode cX4_door 14 = .ok (.invokestatic 128, 3) := dk_184 0 128 (dk_at dksX4_door_0 14 rfl rfl)
theorem dX4_door_17 : decode cX4_door 17 = .ok (.ifCond .ne 5, 3) := dk_154 0 5 (dk_at dksX4_door_0 17 rfl rfl)
theorem dX4_door_20 : decode cX4_door 20 = .ok (.iconst (-1), 1) := dk_2 (dk_at dksX4_door_0 20 rfl rfl)
theorem dX4_door_21 : decode cX4_door 21 = .ok (.ireturn, 1) := dk_172 (dk_at dksX4_door_0 21 rfl rfl)
theorem dX4_door_22 : decode cX4_door 22 = .ok (.iload_n 2, 1) := dk_28 (dk_at dksX4_door_0 22 rfl rfl)
theorem dX4_door_23 : decode cX4_door 23 = .ok (.iconst 3, 1) := dk_6 (dk_at dksX4_door_0 23 rfl rfl)
theorem dX4_door_24 : decode cX4_door 24 = .ok (.if_icmp .ge 19, 3) := dk_162 0 19 (dk_at dksX4_door_1 0 rfl rfl)
theorem dX4_door_27 : decode cX4_door 27 = .ok (.aload_n 0, 1) := dk_42 (dk_at dksX4_door_1 3 rfl rfl)
theorem dX4_door_28 : decode cX4_door 28 = .ok (.getfield 39, 3) := dk_180 0 39 (dk_at dksX4_door_1 4 rfl rfl)
theorem dX4_door_31 : decode cX4_door 31 = .ok (.bipush 42, 2) := dk_16 42 (dk_at dksX4_door_1 7 rfl rfl)
theorem dX4_door_33 : decode cX4_door 33 = .ok (.iconst 3, 1) := dk_6 (dk_at dksX4_door_1 9 rfl rfl)
theorem dX4_door_34 : decode cX4_door 34 = .ok (.iload_n 1, 1) := dk_27 (dk_at dksX4_door_1 10 rfl rfl)
theorem dX4_door_35 : decode cX4_door 35 = .ok (.imul, 1) := dk_104 (dk_at dksX4_door_1 11 rfl rfl)
theorem dX4_door_36 : decode cX4_door 36 = .ok (.iadd, 1) := dk_96 (dk_at dksX4_door_1 12 rfl rfl)
theorem dX4_door_37 : decode cX4_door 37 = .ok (.iload_n 2, 1) := dk_28 (dk_at dksX4_door_1 13 rfl rfl)
theorem dX4_door_38 : decode cX4_door 38 = .ok (.iadd, 1) := dk_96 (dk_at dksX4_door_1 14 rfl rfl)
theorem dX4_door_39 : decode cX4_door 39 = .ok (.iaload, 1) := dk_46 (dk_at dksX4_door_1 15 rfl rfl)
theorem dX4_door_40 : decode cX4_door 40 = .ok (.goto 16, 3) := dk_167 0 16 (dk_at dksX4_door_1 16 rfl rfl)
theorem dX4_door_43 : decode cX4_door 43 = .ok (.aload_n 0, 1) := dk_42 (dk_at dksX4_door_1 19 rfl rfl)
theorem dX4_door_44 : decode cX4_door 44 = .ok (.iload_n 1, 1) := dk_27 (dk_at dksX4_door_1 20 rfl rfl)
theorem dX4_door_45 : decode cX4_door 45 = .ok (.invokevirtual 310, 3) := dk_182 1 54 (dk_at dksX4_door_1 21 rfl rfl)
theorem dX4_door_48 : decode cX4_door 48 = .ok (.ifCond .eq 7, 3) := dk_153 0 7 (dk_at dksX4_door_2 0 rfl rfl)
theorem dX4_door_51 : decode cX4_door 51 = .ok (.iconst 1, 1) := dk_4 (dk_at dksX4_door_2 3 rfl rfl)
theorem dX4_door_52 : decode cX4_door 52 = .ok (.goto 4, 3) := dk_167 0 4 (dk_at dksX4_door_2 4 rfl rfl)
theorem dX4_door_55 : decode cX4_door 55 = .ok (.iconst 0, 1) := dk_3 (dk_at dksX4_door_2 7 rfl rfl)
theorem dX4_door_56 : decode cX4_door 56 = .ok (.ireturn, 1) := dk_172 (dk_at dksX4_door_2 8 rfl rfl)
abbrev cX4_isDoor : ByteArray := prog_20_method_51_code
def yX4_isDoor : MethodName := ⟨RX4, "isDoor", "(I)Z"⟩
def dkwX4_isDoor_0 : List UInt8 := [27, 155, 0, 17, 27, 42, 180, 0, 39, 4, 46, 162, 0, 7, 4, 167, 0, 4, 3, 172]
abbrev dktX4_isDoor_0 : List UInt8 := dkwX4_isDoor_0 ++ []
theorem dksX4_isDoor_0 : cX4_isDoor.data.toList.drop 0 = dktX4_isDoor_0 := by decide +kernel
theorem dX4_isDoor_0 : decode cX4_isDoor 0 = .ok (.iload_n 1, 1) := dk_27 (dk_at dksX4_isDoor_0 0 rfl rfl)
theorem dX4_isDoor_1 : decode cX4_isDoor 1 = .ok (.ifCond .lt 17, 3) := dk_155 0 17 (dk_at dksX4_isDoor_0 1 rfl rfl)
theorem dX4_isDoor_4 : decode cX4_isDoor 4 = .ok (.iload_n 1, 1) := dk_27 (dk_at dksX4_isDoor_0 4 rfl rfl)
theorem dX4_isDoor_5 : decode cX4_isDoor 5 = .ok (.aload_n 0, 1) := dk_42 (dk_at dksX4_isDoor_0 5 rfl rfl)
theorem dX4_isDoor_6 : decode cX4_isDoor 6 = .ok (.getfield 39, 3) := dk_180 0 39 (dk_at dksX4_isDoor_0 6 rfl rfl)
theorem dX4_isDoor_9 : decode cX4_isDoor 9 = .ok (.iconst 1, 1) := dk_4 (dk_at dksX4_isDoor_0 9 rfl rfl)
theorem dX4_isDoor_10 : decode cX4_isDoor 10 = .ok (.iaload, 1) := dk_46 (dk_at dksX4_isDoor_0 10 rfl rfl)
theorem dX4_isDoor_11 : decode cX4_isDoor 11 = .ok (.if_icmp .ge 7, 3) := dk_162 0 7 (dk_at dksX4_isDoor_0 11 rfl rfl)
theorem dX4_isDoor_14 : decode cX4_isDoor 14 = .ok (.iconst 1, 1) := dk_4 (dk_at dksX4_isDoor_0 14 rfl rfl)
theorem dX4_isDoor_15 : decode cX4_isDoor 15 = .ok (.goto 4, 3) := dk_167 0 4 (dk_at dksX4_isDoor_0 15 rfl rfl)
theorem dX4_isDoor_18 : decode cX4_isDoor 18 = .ok (.iconst 0, 1) := dk_3 (dk_at dksX4_isDoor_0 18 rfl rfl)
theorem dX4_isDoor_19 : decode cX4_isDoor 19 = .ok (.ireturn, 1) := dk_172 (dk_at dksX4_isDoor_0 19 rfl rfl)
abbrev cX4_undo : ByteArray := prog_20_method_79_code
def yX4_undo : MethodName := ⟨RX4, "undo", "()I"⟩
def dkwX4_undo_2 : List UInt8 := [132, 1, 1, 167, 255, 227, 42, 180, 1, 27, 172]
abbrev dktX4_undo_2 : List UInt8 := dkwX4_undo_2 ++ []
def dkwX4_undo_1 : List UInt8 := [162, 0, 29, 42, 180, 0, 39, 27, 42, 180, 0, 56, 16, 34, 42, 180, 1, 27, 104, 27, 96, 46, 79]
abbrev dktX4_undo_1 : List UInt8 := dkwX4_undo_1 ++ dktX4_undo_2
def dkwX4_undo_0 : List UInt8 := [42, 180, 1, 27, 154, 0, 5, 2, 172, 42, 89, 180, 1, 27, 4, 100, 181, 1, 27, 3, 60, 27, 16, 34]
abbrev dktX4_undo_0 : List UInt8 := dkwX4_undo_0 ++ dktX4_undo_1
theorem dksX4_undo_0 : cX4_undo.data.toList.drop 0 = dktX4_undo_0 := by decide +kernel
theorem dksX4_undo_1 : cX4_undo.data.toList.drop 24 = dktX4_undo_1 := dk_seg dksX4_undo_0 24 rfl rfl
theorem dksX4_undo_2 : cX4_undo.data.toList.drop 47 = dktX4_undo_2 := dk_seg dksX4_undo_1 23 rfl rfl
theorem dX4_undo_0 : decode cX4_undo 0 = .ok (.aload_n 0, 1) := dk_42 (dk_at dksX4_undo_0 0 rfl rfl)
theorem dX4_undo_1 : decode cX4_undo 1 = .ok (.getfield 283, 3) := dk_180 1 27 (dk_at dksX4_undo_0 1 rfl rfl)
theorem dX4_undo_4 : decode cX4_undo 4 = .ok (.ifCond .ne 5, 3) := dk_154 0 5 (dk_at dksX4_undo_0 4 rfl rfl)
theorem dX4_undo_7 : decode cX4_undo 7 = .ok (.iconst (-1), 1) := dk_2 (dk_at dksX4_undo_0 7 rfl rfl)
theorem dX4_undo_8 : decode cX4_undo 8 = .ok (.ireturn, 1) := dk_172 (dk_at dksX4_undo_0 8 rfl rfl)
theorem dX4_undo_9 : decode cX4_undo 9 = .ok (.aload_n 0, 1) := dk_42 (dk_at dksX4_undo_0 9 rfl rfl)
theorem dX4_undo_10 : decode cX4_undo 10 = .ok (.dup, 1) := dk_89 (dk_at dksX4_undo_0 10 rfl rfl)
theorem dX4_undo_11 : decode cX4_undo 11 = .ok (.getfield 283, 3) := dk_180 1 27 (dk_at dksX4_undo_0 11 rfl rfl)
theorem dX4_undo_14 : decode cX4_undo 14 = .ok (.iconst 1, 1) := dk_4 (dk_at dksX4_undo_0 14 rfl rfl)
theorem dX4_undo_15 : decode cX4_undo 15 = .ok (.isub, 1) := dk_100 (dk_at dksX4_undo_0 15 rfl rfl)
theorem dX4_undo_16 : decode cX4_undo 16 = .ok (.putfield 283, 3) := dk_181 1 27 (dk_at dksX4_undo_0 16 rfl rfl)
theorem dX4_undo_19 : decode cX4_undo 19 = .ok (.iconst 0, 1) := dk_3 (dk_at dksX4_undo_0 19 rfl rfl)
theorem dX4_undo_20 : decode cX4_undo 20 = .ok (.istore_n 1, 1) := dk_60 (dk_at dksX4_undo_0 20 rfl rfl)
theorem dX4_undo_21 : decode cX4_undo 21 = .ok (.iload_n 1, 1) := dk_27 (dk_at dksX4_undo_0 21 rfl rfl)
theorem dX4_undo_22 : decode cX4_undo 22 = .ok (.bipush 34, 2) := dk_16 34 (dk_at dksX4_undo_0 22 rfl rfl)
theorem dX4_undo_24 : decode cX4_undo 24 = .ok (.if_icmp .ge 29, 3) := dk_162 0 29 (dk_at dksX4_undo_1 0 rfl rfl)
theorem dX4_undo_27 : decode cX4_undo 27 = .ok (.aload_n 0, 1) := dk_42 (dk_at dksX4_undo_1 3 rfl rfl)
theorem dX4_undo_28 : decode cX4_undo 28 = .ok (.getfield 39, 3) := dk_180 0 39 (dk_at dksX4_undo_1 4 rfl rfl)
theorem dX4_undo_31 : decode cX4_undo 31 = .ok (.iload_n 1, 1) := dk_27 (dk_at dksX4_undo_1 7 rfl rfl)
theorem dX4_undo_32 : decode cX4_undo 32 = .ok (.aload_n 0, 1) := dk_42 (dk_at dksX4_undo_1 8 rfl rfl)
theorem dX4_undo_33 : decode cX4_undo 33 = .ok (.getfield 56, 3) := dk_180 0 56 (dk_at dksX4_undo_1 9 rfl rfl)
theorem dX4_undo_36 : decode cX4_undo 36 = .ok (.bipush 34, 2) := dk_16 34 (dk_at dksX4_undo_1 12 rfl rfl)
theorem dX4_undo_38 : decode cX4_undo 38 = .ok (.aload_n 0, 1) := dk_42 (dk_at dksX4_undo_1 14 rfl rfl)
theorem dX4_undo_39 : decode cX4_undo 39 = .ok (.getfield 283, 3) := dk_180 1 27 (dk_at dksX4_undo_1 15 rfl rfl)
theorem dX4_undo_42 : decode cX4_undo 42 = .ok (.imul, 1) := dk_104 (dk_at dksX4_undo_1 18 rfl rfl)
theorem dX4_undo_43 : decode cX4_undo 43 = .ok (.iload_n 1, 1) := dk_27 (dk_at dksX4_undo_1 19 rfl rfl)
theorem dX4_undo_44 : decode cX4_undo 44 = .ok (.iadd, 1) := dk_96 (dk_at dksX4_undo_1 20 rfl rfl)
theorem dX4_undo_45 : decode cX4_undo 45 = .ok (.iaload, 1) := dk_46 (dk_at dksX4_undo_1 21 rfl rfl)
theorem dX4_undo_46 : decode cX4_undo 46 = .ok (.iastore, 1) := dk_79 (dk_at dksX4_undo_1 22 rfl rfl)
theorem dX4_undo_47 : decode cX4_undo 47 = .ok (.iinc 1 1, 3) := dk_132 1 1 (dk_at dksX4_undo_2 0 rfl rfl)
theorem dX4_undo_50 : decode cX4_undo 50 = .ok (.goto (-29), 3) := dk_167 255 227 (dk_at dksX4_undo_2 3 rfl rfl)
theorem dX4_undo_53 : decode cX4_undo 53 = .ok (.aload_n 0, 1) := dk_42 (dk_at dksX4_undo_2 6 rfl rfl)
theorem dX4_undo_54 : decode cX4_undo 54 = .ok (.getfield 283, 3) := dk_180 1 27 (dk_at dksX4_undo_2 7 rfl rfl)
theorem dX4_undo_57 : decode cX4_undo 57 = .ok (.ireturn, 1) := dk_172 (dk_at dksX4_undo_2 10 rfl rfl)
abbrev cX4_moment : ByteArray := prog_20_method_80_code
def yX4_moment : MethodName := ⟨RX4, "moment", "()I"⟩
def dkwX4_moment_1 : List UInt8 := [182, 1, 136, 42, 182, 1, 139, 172]
abbrev dktX4_moment_1 : List UInt8 := dkwX4_moment_1 ++ []
def dkwX4_moment_0 : List UInt8 := [42, 182, 1, 133, 153, 0, 15, 42, 180, 0, 39, 6, 46, 17, 3, 231, 160, 0, 5, 2, 172, 42]
abbrev dktX4_moment_0 : List UInt8 := dkwX4_moment_0 ++ dktX4_moment_1
theorem dksX4_moment_0 : cX4_moment.data.toList.drop 0 = dktX4_moment_0 := by decide +kernel
theorem dksX4_moment_1 : cX4_moment.data.toList.drop 22 = dktX4_moment_1 := dk_seg dksX4_moment_0 22 rfl rfl
theorem dX4_moment_0 : decode cX4_moment 0 = .ok (.aload_n 0, 1) := dk_42 (dk_at dksX4_moment_0 0 rfl rfl)
theorem dX4_moment_1 : decode cX4_moment 1 = .ok (.invokevirtual 389, 3) := dk_182 1 133 (dk_at dksX4_moment_0 1 rfl rfl)
theorem dX4_moment_4 : decode cX4_moment 4 = .ok (.ifCond .eq 15, 3) := dk_153 0 15 (dk_at dksX4_moment_0 4 rfl rfl)
theorem dX4_moment_7 : decode cX4_moment 7 = .ok (.aload_n 0, 1) := dk_42 (dk_at dksX4_moment_0 7 rfl rfl)
theorem dX4_moment_8 : decode cX4_moment 8 = .ok (.getfield 39, 3) := dk_180 0 39 (dk_at dksX4_moment_0 8 rfl rfl)
theorem dX4_moment_11 : decode cX4_moment 11 = .ok (.iconst 3, 1) := dk_6 (dk_at dksX4_moment_0 11 rfl rfl)
theorem dX4_moment_12 : decode cX4_moment 12 = .ok (.iaload, 1) := dk_46 (dk_at dksX4_moment_0 12 rfl rfl)
theorem dX4_moment_13 : decode cX4_moment 13 = .ok (.sipush 999, 3) := dk_17 3 231 (dk_at dksX4_moment_0 13 rfl rfl)
theorem dX4_moment_16 : decode cX4_moment 16 = .ok (.if_icmp .ne 5, 3) := dk_160 0 5 (dk_at dksX4_moment_0 16 rfl rfl)
theorem dX4_moment_19 : decode cX4_moment 19 = .ok (.iconst (-1), 1) := dk_2 (dk_at dksX4_moment_0 19 rfl rfl)
theorem dX4_moment_20 : decode cX4_moment 20 = .ok (.ireturn, 1) := dk_172 (dk_at dksX4_moment_0 20 rfl rfl)
theorem dX4_moment_21 : decode cX4_moment 21 = .ok (.aload_n 0, 1) := dk_42 (dk_at dksX4_moment_0 21 rfl rfl)
theorem dX4_moment_22 : decode cX4_moment 22 = .ok (.invokevirtual 392, 3) := dk_182 1 136 (dk_at dksX4_moment_1 0 rfl rfl)
theorem dX4_moment_25 : decode cX4_moment 25 = .ok (.aload_n 0, 1) := dk_42 (dk_at dksX4_moment_1 3 rfl rfl)
theorem dX4_moment_26 : decode cX4_moment 26 = .ok (.invokevirtual 395, 3) := dk_182 1 139 (dk_at dksX4_moment_1 4 rfl rfl)
theorem dX4_moment_29 : decode cX4_moment 29 = .ok (.ireturn, 1) := dk_172 (dk_at dksX4_moment_1 7 rfl rfl)
abbrev cX4_isCastle : ByteArray := prog_20_method_48_code
def yX4_isCastle : MethodName := ⟨RX4, "isCastle", "()Z"⟩
def dkwX4_isCastle_0 : List UInt8 := [42, 180, 0, 39, 3, 46, 158, 0, 7, 4, 167, 0, 4, 3, 172]
abbrev dktX4_isCastle_0 : List UInt8 := dkwX4_isCastle_0 ++ []
theorem dksX4_isCastle_0 : cX4_isCastle.data.toList.drop 0 = dktX4_isCastle_0 := by decide +kernel
theorem dX4_isCastle_0 : decode cX4_isCastle 0 = .ok (.aload_n 0, 1) := dk_42 (dk_at dksX4_isCastle_0 0 rfl rfl)
theorem dX4_isCastle_1 : decode cX4_isCastle 1 = .ok (.getfield 39, 3) := dk_180 0 39 (dk_at dksX4_isCastle_0 1 rfl rfl)
theorem dX4_isCastle_4 : decode cX4_isCastle 4 = .ok (.iconst 0, 1) := dk_3 (dk_at dksX4_isCastle_0 4 rfl rfl)
theorem dX4_isCastle_5 : decode cX4_isCastle 5 = .ok (.iaload, 1) := dk_46 (dk_at dksX4_isCastle_0 5 rfl rfl)
theorem dX4_isCastle_6 : decode cX4_isCastle 6 = .ok (.ifCond .le 7, 3) := dk_158 0 7 (dk_at dksX4_isCastle_0 6 rfl rfl)
theorem dX4_isCastle_9 : decode cX4_isCastle 9 = .ok (.iconst 1, 1) := dk_4 (dk_at dksX4_isCastle_0 9 rfl rfl)
theorem dX4_isCastle_10 : decode cX4_isCastle 10 = .ok (.goto 4, 3) := dk_167 0 4 (dk_at dksX4_isCastle_0 10 rfl rfl)
theorem dX4_isCastle_13 : decode cX4_isCastle 13 = .ok (.iconst 0, 1) := dk_3 (dk_at dksX4_isCastle_0 13 rfl rfl)
theorem dX4_isCastle_14 : decode cX4_isCastle 14 = .ok (.ireturn, 1) := dk_172 (dk_at dksX4_isCastle_0 14 rfl rfl)
abbrev cX4_keepsAct : ByteArray := prog_20_method_78_code
def yX4_keepsAct : MethodName := ⟨RX4, "keepsAct", "()V"⟩
def dkwX4_keepsAct_3 : List UInt8 := [42, 180, 0, 39, 27, 46, 79, 132, 1, 1, 167, 255, 227, 42, 89, 180, 1, 27, 4, 96, 181, 1, 27, 177]
abbrev dktX4_keepsAct_3 : List UInt8 := dkwX4_keepsAct_3 ++ []
def dkwX4_keepsAct_2 : List UInt8 := [181, 1, 27, 3, 60, 27, 16, 34, 162, 0, 29, 42, 180, 0, 56, 16, 34, 42, 180, 1, 27, 104, 27, 96]
abbrev dktX4_keepsAct_2 : List UInt8 := dkwX4_keepsAct_2 ++ dktX4_keepsAct_3
def dkwX4_keepsAct_1 : List UInt8 := [16, 34, 100, 42, 180, 0, 56, 27, 46, 79, 132, 1, 1, 167, 255, 231, 42, 89, 180, 1, 27, 4, 100]
abbrev dktX4_keepsAct_1 : List UInt8 := dkwX4_keepsAct_1 ++ dktX4_keepsAct_2
def dkwX4_keepsAct_0 : List UInt8 := [42, 180, 1, 27, 16, 20, 160, 0, 44, 16, 34, 60, 27, 17, 2, 168, 162, 0, 24, 42, 180, 0, 56, 27]
abbrev dktX4_keepsAct_0 : List UInt8 := dkwX4_keepsAct_0 ++ dktX4_keepsAct_1
theorem dksX4_keepsAct_0 : cX4_keepsAct.data.toList.drop 0 = dktX4_keepsAct_0 := by decide +kernel
theorem dksX4_keepsAct_1 : cX4_keepsAct.data.toList.drop 24 = dktX4_keepsAct_1 := dk_seg dksX4_keepsAct_0 24 rfl rfl
theorem dksX4_keepsAct_2 : cX4_keepsAct.data.toList.drop 47 = dktX4_keepsAct_2 := dk_seg dksX4_keepsAct_1 23 rfl rfl
theorem dksX4_keepsAct_3 : cX4_keepsAct.data.toList.drop 71 = dktX4_keepsAct_3 := dk_seg dksX4_keepsAct_2 24 rfl rfl
theorem dX4_keepsAct_0 : decode cX4_keepsAct 0 = .ok (.aload_n 0, 1) := dk_42 (dk_at dksX4_keepsAct_0 0 rfl rfl)
theorem dX4_keepsAct_1 : decode cX4_keepsAct 1 = .ok (.getfield 283, 3) := dk_180 1 27 (dk_at dksX4_keepsAct_0 1 rfl rfl)
theorem dX4_keepsAct_4 : decode cX4_keepsAct 4 = .ok (.bipush 20, 2) := dk_16 20 (dk_at dksX4_keepsAct_0 4 rfl rfl)
theorem dX4_keepsAct_6 : decode cX4_keepsAct 6 = .ok (.if_icmp .ne 44, 3) := dk_160 0 44 (dk_at dksX4_keepsAct_0 6 rfl rfl)
theorem dX4_keepsAct_9 : decode cX4_keepsAct 9 = .ok (.bipush 34, 2) := dk_16 34 (dk_at dksX4_keepsAct_0 9 rfl rfl)
theorem dX4_keepsAct_11 : decode cX4_keepsAct 11 = .ok (.istore_n 1, 1) := dk_60 (dk_at dksX4_keepsAct_0 11 rfl rfl)
theorem dX4_keepsAct_12 : decode cX4_keepsAct 12 = .ok (.iload_n 1, 1) := dk_27 (dk_at dksX4_keepsAct_0 12 rfl rfl)
theorem dX4_keepsAct_13 : decode cX4_keepsAct 13 = .ok (.sipush 680, 3) := dk_17 2 168 (dk_at dksX4_keepsAct_0 13 rfl rfl)
theorem dX4_keepsAct_16 : decode cX4_keepsAct 16 = .ok (.if_icmp .ge 24, 3) := dk_162 0 24 (dk_at dksX4_keepsAct_0 16 rfl rfl)
theorem dX4_keepsAct_19 : decode cX4_keepsAct 19 = .ok (.aload_n 0, 1) := dk_42 (dk_at dksX4_keepsAct_0 19 rfl rfl)
theorem dX4_keepsAct_20 : decode cX4_keepsAct 20 = .ok (.getfield 56, 3) := dk_180 0 56 (dk_at dksX4_keepsAct_0 20 rfl rfl)
theorem dX4_keepsAct_23 : decode cX4_keepsAct 23 = .ok (.iload_n 1, 1) := dk_27 (dk_at dksX4_keepsAct_0 23 rfl rfl)
theorem dX4_keepsAct_24 : decode cX4_keepsAct 24 = .ok (.bipush 34, 2) := dk_16 34 (dk_at dksX4_keepsAct_1 0 rfl rfl)
theorem dX4_keepsAct_26 : decode cX4_keepsAct 26 = .ok (.isub, 1) := dk_100 (dk_at dksX4_keepsAct_1 2 rfl rfl)
theorem dX4_keepsAct_27 : decode cX4_keepsAct 27 = .ok (.aload_n 0, 1) := dk_42 (dk_at dksX4_keepsAct_1 3 rfl rfl)
theorem dX4_keepsAct_28 : decode cX4_keepsAct 28 = .ok (.getfield 56, 3) := dk_180 0 56 (dk_at dksX4_keepsAct_1 4 rfl rfl)
theorem dX4_keepsAct_31 : decode cX4_keepsAct 31 = .ok (.iload_n 1, 1) := dk_27 (dk_at dksX4_keepsAct_1 7 rfl rfl)
theorem dX4_keepsAct_32 : decode cX4_keepsAct 32 = .ok (.iaload, 1) := dk_46 (dk_at dksX4_keepsAct_1 8 rfl rfl)
theorem dX4_keepsAct_33 : decode cX4_keepsAct 33 = .ok (.iastore, 1) := dk_79 (dk_at dksX4_keepsAct_1 9 rfl rfl)
theorem dX4_keepsAct_34 : decode cX4_keepsAct 34 = .ok (.iinc 1 1, 3) := dk_132 1 1 (dk_at dksX4_keepsAct_1 10 rfl rfl)
theorem dX4_keepsAct_37 : decode cX4_keepsAct 37 = .ok (.goto (-25), 3) := dk_167 255 231 (dk_at dksX4_keepsAct_1 13 rfl rfl)
theorem dX4_keepsAct_40 : decode cX4_keepsAct 40 = .ok (.aload_n 0, 1) := dk_42 (dk_at dksX4_keepsAct_1 16 rfl rfl)
theorem dX4_keepsAct_41 : decode cX4_keepsAct 41 = .ok (.dup, 1) := dk_89 (dk_at dksX4_keepsAct_1 17 rfl rfl)
theorem dX4_keepsAct_42 : decode cX4_keepsAct 42 = .ok (.getfield 283, 3) := dk_180 1 27 (dk_at dksX4_keepsAct_1 18 rfl rfl)
theorem dX4_keepsAct_45 : decode cX4_keepsAct 45 = .ok (.iconst 1, 1) := dk_4 (dk_at dksX4_keepsAct_1 21 rfl rfl)
theorem dX4_keepsAct_46 : decode cX4_keepsAct 46 = .ok (.isub, 1) := dk_100 (dk_at dksX4_keepsAct_1 22 rfl rfl)
theorem dX4_keepsAct_47 : decode cX4_keepsAct 47 = .ok (.putfield 283, 3) := dk_181 1 27 (dk_at dksX4_keepsAct_2 0 rfl rfl)
theorem dX4_keepsAct_50 : decode cX4_keepsAct 50 = .ok (.iconst 0, 1) := dk_3 (dk_at dksX4_keepsAct_2 3 rfl rfl)
theorem dX4_keepsAct_51 : decode cX4_keepsAct 51 = .ok (.istore_n 1, 1) := dk_60 (dk_at dksX4_keepsAct_2 4 rfl rfl)
theorem dX4_keepsAct_52 : decode cX4_keepsAct 52 = .ok (.iload_n 1, 1) := dk_27 (dk_at dksX4_keepsAct_2 5 rfl rfl)
theorem dX4_keepsAct_53 : decode cX4_keepsAct 53 = .ok (.bipush 34, 2) := dk_16 34 (dk_at dksX4_keepsAct_2 6 rfl rfl)
theorem dX4_keepsAct_55 : decode cX4_keepsAct 55 = .ok (.if_icmp .ge 29, 3) := dk_162 0 29 (dk_at dksX4_keepsAct_2 8 rfl rfl)
theorem dX4_keepsAct_58 : decode cX4_keepsAct 58 = .ok (.aload_n 0, 1) := dk_42 (dk_at dksX4_keepsAct_2 11 rfl rfl)
theorem dX4_keepsAct_59 : decode cX4_keepsAct 59 = .ok (.getfield 56, 3) := dk_180 0 56 (dk_at dksX4_keepsAct_2 12 rfl rfl)
theorem dX4_keepsAct_62 : decode cX4_keepsAct 62 = .ok (.bipush 34, 2) := dk_16 34 (dk_at dksX4_keepsAct_2 15 rfl rfl)
theorem dX4_keepsAct_64 : decode cX4_keepsAct 64 = .ok (.aload_n 0, 1) := dk_42 (dk_at dksX4_keepsAct_2 17 rfl rfl)
theorem dX4_keepsAct_65 : decode cX4_keepsAct 65 = .ok (.getfield 283, 3) := dk_180 1 27 (dk_at dksX4_keepsAct_2 18 rfl rfl)
theorem dX4_keepsAct_68 : decode cX4_keepsAct 68 = .ok (.imul, 1) := dk_104 (dk_at dksX4_keepsAct_2 21 rfl rfl)
theorem dX4_keepsAct_69 : decode cX4_keepsAct 69 = .ok (.iload_n 1, 1) := dk_27 (dk_at dksX4_keepsAct_2 22 rfl rfl)
theorem dX4_keepsAct_70 : decode cX4_keepsAct 70 = .ok (.iadd, 1) := dk_96 (dk_at dksX4_keepsAct_2 23 rfl rfl)
theorem dX4_keepsAct_71 : decode cX4_keepsAct 71 = .ok (.aload_n 0, 1) := dk_42 (dk_at dksX4_keepsAct_3 0 rfl rfl)
theorem dX4_keepsAct_72 : decode cX4_keepsAct 72 = .ok (.getfield 39, 3) := dk_180 0 39 (dk_at dksX4_keepsAct_3 1 rfl rfl)
theorem dX4_keepsAct_75 : decode cX4_keepsAct 75 = .ok (.iload_n 1, 1) := dk_27 (dk_at dksX4_keepsAct_3 4 rfl rfl)
theorem dX4_keepsAct_76 : decode cX4_keepsAct 76 = .ok (.iaload, 1) := dk_46 (dk_at dksX4_keepsAct_3 5 rfl rfl)
theorem dX4_keepsAct_77 : decode cX4_keepsAct 77 = .ok (.iastore, 1) := dk_79 (dk_at dksX4_keepsAct_3 6 rfl rfl)
theorem dX4_keepsAct_78 : decode cX4_keepsAct 78 = .ok (.iinc 1 1, 3) := dk_132 1 1 (dk_at dksX4_keepsAct_3 7 rfl rfl)
theorem dX4_keepsAct_81 : decode cX4_keepsAct 81 = .ok (.goto (-29), 3) := dk_167 255 227 (dk_at dksX4_keepsAct_3 10 rfl rfl)
theorem dX4_keepsAct_84 : decode cX4_keepsAct 84 = .ok (.aload_n 0, 1) := dk_42 (dk_at dksX4_keepsAct_3 13 rfl rfl)
theorem dX4_keepsAct_85 : decode cX4_keepsAct 85 = .ok (.dup, 1) := dk_89 (dk_at dksX4_keepsAct_3 14 rfl rfl)
theorem dX4_keepsAct_86 : decode cX4_keepsAct 86 = .ok (.getfield 283, 3) := dk_180 1 27 (dk_at dksX4_keepsAct_3 15 rfl rfl)
theorem dX4_keepsAct_89 : decode cX4_keepsAct 89 = .ok (.iconst 1, 1) := dk_4 (dk_at dksX4_keepsAct_3 18 rfl rfl)
theorem dX4_keepsAct_90 : decode cX4_keepsAct 90 = .ok (.iadd, 1) := dk_96 (dk_at dksX4_keepsAct_3 19 rfl rfl)
theorem dX4_keepsAct_91 : decode cX4_keepsAct 91 = .ok (.putfield 283, 3) := dk_181 1 27 (dk_at dksX4_keepsAct_3 20 rfl rfl)
theorem dX4_keepsAct_94 : decode cX4_keepsAct 94 = .ok (.return_, 1) := dk_177 (dk_at dksX4_keepsAct_3 23 rfl rfl)
abbrev cX4_passes : ByteArray := prog_20_method_77_code
def yX4_passes : MethodName := ⟨RX4, "passes", "()I"⟩
def dkwX4_passes_6 : List UInt8 := [132, 2, 1, 167, 255, 193, 42, 180, 0, 39, 6, 92, 46, 4, 96, 79, 27, 172]
abbrev dktX4_passes_6 : List UInt8 := dkwX4_passes_6 ++ []
def dkwX4_passes_5 : List UInt8 := [182, 1, 125, 28, 42, 28, 4, 29, 182, 1, 125, 182, 1, 129, 132, 1, 1, 132, 3, 1, 167, 255, 211]
abbrev dktX4_passes_5 : List UInt8 := dkwX4_passes_5 ++ dktX4_passes_6
def dkwX4_passes_4 : List UInt8 := [28, 4, 29, 182, 1, 125, 155, 0, 41, 42, 28, 3, 29, 182, 1, 125, 155, 0, 31, 42, 42, 28, 3, 29]
abbrev dktX4_passes_4 : List UInt8 := dkwX4_passes_4 ++ dktX4_passes_5
def dkwX4_passes_3 : List UInt8 := [132, 1, 1, 132, 2, 1, 167, 255, 208, 3, 61, 28, 42, 180, 0, 39, 4, 46, 162, 0, 59, 3, 62, 42]
abbrev dktX4_passes_3 : List UInt8 := dkwX4_passes_3 ++ dktX4_passes_4
def dkwX4_passes_2 : List UInt8 := [42, 180, 0, 52, 28, 51, 154, 0, 6, 167, 0, 17, 42, 28, 42, 180, 0, 49, 28, 46, 182, 1, 122]
abbrev dktX4_passes_2 : List UInt8 := dkwX4_passes_2 ++ dktX4_passes_3
def dkwX4_passes_1 : List UInt8 := [167, 255, 238, 3, 61, 28, 42, 180, 0, 39, 5, 46, 162, 0, 44, 42, 180, 0, 49, 28, 46, 155, 0, 29]
abbrev dktX4_passes_1 : List UInt8 := dkwX4_passes_1 ++ dktX4_passes_2
def dkwX4_passes_0 : List UInt8 := [3, 60, 3, 61, 28, 42, 180, 0, 39, 5, 46, 162, 0, 14, 42, 28, 182, 1, 119, 132, 2, 1]
abbrev dktX4_passes_0 : List UInt8 := dkwX4_passes_0 ++ dktX4_passes_1
theorem dksX4_passes_0 : cX4_passes.data.toList.drop 0 = dktX4_passes_0 := by decide +kernel
theorem dksX4_passes_1 : cX4_passes.data.toList.drop 22 = dktX4_passes_1 := dk_seg dksX4_passes_0 22 rfl rfl
theorem dksX4_passes_2 : cX4_passes.data.toList.drop 46 = dktX4_passes_2 := dk_seg dksX4_passes_1 24 rfl rfl
theorem dksX4_passes_3 : cX4_passes.data.toList.drop 69 = dktX4_passes_3 := dk_seg dksX4_passes_2 23 rfl rfl
theorem dksX4_passes_4 : cX4_passes.data.toList.drop 93 = dktX4_passes_4 := dk_seg dksX4_passes_3 24 rfl rfl
theorem dksX4_passes_5 : cX4_passes.data.toList.drop 117 = dktX4_passes_5 := dk_seg dksX4_passes_4 24 rfl rfl
theorem dksX4_passes_6 : cX4_passes.data.toList.drop 140 = dktX4_passes_6 := dk_seg dksX4_passes_5 23 rfl rfl
theorem dX4_passes_0 : decode cX4_passes 0 = .ok (.iconst 0, 1) := dk_3 (dk_at dksX4_passes_0 0 rfl rfl)
theorem dX4_passes_1 : decode cX4_passes 1 = .ok (.istore_n 1, 1) := dk_60 (dk_at dksX4_passes_0 1 rfl rfl)
theorem dX4_passes_2 : decode cX4_passes 2 = .ok (.iconst 0, 1) := dk_3 (dk_at dksX4_passes_0 2 rfl rfl)
theorem dX4_passes_3 : decode cX4_passes 3 = .ok (.istore_n 2, 1) := dk_61 (dk_at dksX4_passes_0 3 rfl rfl)
theorem dX4_passes_4 : decode cX4_passes 4 = .ok (.iload_n 2, 1) := dk_28 (dk_at dksX4_passes_0 4 rfl rfl)
theorem dX4_passes_5 : decode cX4_passes 5 = .ok (.aload_n 0, 1) := dk_42 (dk_at dksX4_passes_0 5 rfl rfl)
theorem dX4_passes_6 : decode cX4_passes 6 = .ok (.getfield 39, 3) := dk_180 0 39 (dk_at dksX4_passes_0 6 rfl rfl)
theorem dX4_passes_9 : decode cX4_passes 9 = .ok (.iconst 2, 1) := dk_5 (dk_at dksX4_passes_0 9 rfl rfl)
theorem dX4_passes_10 : decode cX4_passes 10 = .ok (.iaload, 1) := dk_46 (dk_at dksX4_passes_0 10 rfl rfl)
theorem dX4_passes_11 : decode cX4_passes 11 = .ok (.if_icmp .ge 14, 3) := dk_162 0 14 (dk_at dksX4_passes_0 11 rfl rfl)
theorem dX4_passes_14 : decode cX4_passes 14 = .ok (.aload_n 0, 1) := dk_42 (dk_at dksX4_passes_0 14 rfl rfl)
theorem dX4_passes_15 : decode cX4_passes 15 = .ok (.iload_n 2, 1) := dk_28 (dk_at dksX4_passes_0 15 rfl rfl)
theorem dX4_passes_16 : decode cX4_passes 16 = .ok (.invokevirtual 375, 3) := dk_182 1 119 (dk_at dksX4_passes_0 16 rfl rfl)
theorem dX4_passes_19 : decode cX4_passes 19 = .ok (.iinc 2 1, 3) := dk_132 2 1 (dk_at dksX4_passes_0 19 rfl rfl)
theorem dX4_passes_22 : decode cX4_passes 22 = .ok (.goto (-18), 3) := dk_167 255 238 (dk_at dksX4_passes_1 0 rfl rfl)
theorem dX4_passes_25 : decode cX4_passes 25 = .ok (.iconst 0, 1) := dk_3 (dk_at dksX4_passes_1 3 rfl rfl)
theorem dX4_passes_26 : decode cX4_passes 26 = .ok (.istore_n 2, 1) := dk_61 (dk_at dksX4_passes_1 4 rfl rfl)
theorem dX4_passes_27 : decode cX4_passes 27 = .ok (.iload_n 2, 1) := dk_28 (dk_at dksX4_passes_1 5 rfl rfl)
theorem dX4_passes_28 : decode cX4_passes 28 = .ok (.aload_n 0, 1) := dk_42 (dk_at dksX4_passes_1 6 rfl rfl)
theorem dX4_passes_29 : decode cX4_passes 29 = .ok (.getfield 39, 3) := dk_180 0 39 (dk_at dksX4_passes_1 7 rfl rfl)
theorem dX4_passes_32 : decode cX4_passes 32 = .ok (.iconst 2, 1) := dk_5 (dk_at dksX4_passes_1 10 rfl rfl)
theorem dX4_passes_33 : decode cX4_passes 33 = .ok (.iaload, 1) := dk_46 (dk_at dksX4_passes_1 11 rfl rfl)
theorem dX4_passes_34 : decode cX4_passes 34 = .ok (.if_icmp .ge 44, 3) := dk_162 0 44 (dk_at dksX4_passes_1 12 rfl rfl)
theorem dX4_passes_37 : decode cX4_passes 37 = .ok (.aload_n 0, 1) := dk_42 (dk_at dksX4_passes_1 15 rfl rfl)
theorem dX4_passes_38 : decode cX4_passes 38 = .ok (.getfield 49, 3) := dk_180 0 49 (dk_at dksX4_passes_1 16 rfl rfl)
theorem dX4_passes_41 : decode cX4_passes 41 = .ok (.iload_n 2, 1) := dk_28 (dk_at dksX4_passes_1 19 rfl rfl)
theorem dX4_passes_42 : decode cX4_passes 42 = .ok (.iaload, 1) := dk_46 (dk_at dksX4_passes_1 20 rfl rfl)
theorem dX4_passes_43 : decode cX4_passes 43 = .ok (.ifCond .lt 29, 3) := dk_155 0 29 (dk_at dksX4_passes_1 21 rfl rfl)
theorem dX4_passes_46 : decode cX4_passes 46 = .ok (.aload_n 0, 1) := dk_42 (dk_at dksX4_passes_2 0 rfl rfl)
theorem dX4_passes_47 : decode cX4_passes 47 = .ok (.getfield 52, 3) := dk_180 0 52 (dk_at dksX4_passes_2 1 rfl rfl)
theorem dX4_passes_50 : decode cX4_passes 50 = .ok (.iload_n 2, 1) := dk_28 (dk_at dksX4_passes_2 4 rfl rfl)
theorem dX4_passes_51 : decode cX4_passes 51 = .ok (.baload, 1) := dk_51 (dk_at dksX4_passes_2 5 rfl rfl)
theorem dX4_passes_52 : decode cX4_passes 52 = .ok (.ifCond .ne 6, 3) := dk_154 0 6 (dk_at dksX4_passes_2 6 rfl rfl)
theorem dX4_passes_55 : decode cX4_passes 55 = .ok (.goto 17, 3) := dk_167 0 17 (dk_at dksX4_passes_2 9 rfl rfl)
theorem dX4_passes_58 : decode cX4_passes 58 = .ok (.aload_n 0, 1) := dk_42 (dk_at dksX4_passes_2 12 rfl rfl)
theorem dX4_passes_59 : decode cX4_passes 59 = .ok (.iload_n 2, 1) := dk_28 (dk_at dksX4_passes_2 13 rfl rfl)
theorem dX4_passes_60 : decode cX4_passes 60 = .ok (.aload_n 0, 1) := dk_42 (dk_at dksX4_passes_2 14 rfl rfl)
theorem dX4_passes_61 : decode cX4_passes 61 = .ok (.getfield 49, 3) := dk_180 0 49 (dk_at dksX4_passes_2 15 rfl rfl)
theorem dX4_passes_64 : decode cX4_passes 64 = .ok (.iload_n 2, 1) := dk_28 (dk_at dksX4_passes_2 18 rfl rfl)
theorem dX4_passes_65 : decode cX4_passes 65 = .ok (.iaload, 1) := dk_46 (dk_at dksX4_passes_2 19 rfl rfl)
theorem dX4_passes_66 : decode cX4_passes 66 = .ok (.invokevirtual 378, 3) := dk_182 1 122 (dk_at dksX4_passes_2 20 rfl rfl)
theorem dX4_passes_69 : decode cX4_passes 69 = .ok (.iinc 1 1, 3) := dk_132 1 1 (dk_at dksX4_passes_3 0 rfl rfl)
theorem dX4_passes_72 : decode cX4_passes 72 = .ok (.iinc 2 1, 3) := dk_132 2 1 (dk_at dksX4_passes_3 3 rfl rfl)
theorem dX4_passes_75 : decode cX4_passes 75 = .ok (.goto (-48), 3) := dk_167 255 208 (dk_at dksX4_passes_3 6 rfl rfl)
theorem dX4_passes_78 : decode cX4_passes 78 = .ok (.iconst 0, 1) := dk_3 (dk_at dksX4_passes_3 9 rfl rfl)
theorem dX4_passes_79 : decode cX4_passes 79 = .ok (.istore_n 2, 1) := dk_61 (dk_at dksX4_passes_3 10 rfl rfl)
theorem dX4_passes_80 : decode cX4_passes 80 = .ok (.iload_n 2, 1) := dk_28 (dk_at dksX4_passes_3 11 rfl rfl)
theorem dX4_passes_81 : decode cX4_passes 81 = .ok (.aload_n 0, 1) := dk_42 (dk_at dksX4_passes_3 12 rfl rfl)
theorem dX4_passes_82 : decode cX4_passes 82 = .ok (.getfield 39, 3) := dk_180 0 39 (dk_at dksX4_passes_3 13 rfl rfl)
theorem dX4_passes_85 : decode cX4_passes 85 = .ok (.iconst 1, 1) := dk_4 (dk_at dksX4_passes_3 16 rfl rfl)
theorem dX4_passes_86 : decode cX4_passes 86 = .ok (.iaload, 1) := dk_46 (dk_at dksX4_passes_3 17 rfl rfl)
theorem dX4_passes_87 : decode cX4_passes 87 = .ok (.if_icmp .ge 59, 3) := dk_162 0 59 (dk_at dksX4_passes_3 18 rfl rfl)
theorem dX4_passes_90 : decode cX4_passes 90 = .ok (.iconst 0, 1) := dk_3 (dk_at dksX4_passes_3 21 rfl rfl)
theorem dX4_passes_91 : decode cX4_passes 91 = .ok (.istore_n 3, 1) := dk_62 (dk_at dksX4_passes_3 22 rfl rfl)
theorem dX4_passes_92 : decode cX4_passes 92 = .ok (.aload_n 0, 1) := dk_42 (dk_at dksX4_passes_3 23 rfl rfl)
theorem dX4_passes_93 : decode cX4_passes 93 = .ok (.iload_n 2, 1) := dk_28 (dk_at dksX4_passes_4 0 rfl rfl)
theorem dX4_passes_94 : decode cX4_passes 94 = .ok (.iconst 1, 1) := dk_4 (dk_at dksX4_passes_4 1 rfl rfl)
theorem dX4_passes_95 : decode cX4_passes 95 = .ok (.iload_n 3, 1) := dk_29 (dk_at dksX4_passes_4 2 rfl rfl)
theorem dX4_passes_96 : decode cX4_passes 96 = .ok (.invokevirtual 381, 3) := dk_182 1 125 (dk_at dksX4_passes_4 3 rfl rfl)
theorem dX4_passes_99 : decode cX4_passes 99 = .ok (.ifCond .lt 41, 3) := dk_155 0 41 (dk_at dksX4_passes_4 6 rfl rfl)
theorem dX4_passes_102 : decode cX4_passes 102 = .ok (.aload_n 0, 1) := dk_42 (dk_at dksX4_passes_4 9 rfl rfl)
theorem dX4_passes_103 : decode cX4_passes 103 = .ok (.iload_n 2, 1) := dk_28 (dk_at dksX4_passes_4 10 rfl rfl)
theorem dX4_passes_104 : decode cX4_passes 104 = .ok (.iconst 0, 1) := dk_3 (dk_at dksX4_passes_4 11 rfl rfl)
theorem dX4_passes_105 : decode cX4_passes 105 = .ok (.iload_n 3, 1) := dk_29 (dk_at dksX4_passes_4 12 rfl rfl)
theorem dX4_passes_106 : decode cX4_passes 106 = .ok (.invokevirtual 381, 3) := dk_182 1 125 (dk_at dksX4_passes_4 13 rfl rfl)
theorem dX4_passes_109 : decode cX4_passes 109 = .ok (.ifCond .lt 31, 3) := dk_155 0 31 (dk_at dksX4_passes_4 16 rfl rfl)
theorem dX4_passes_112 : decode cX4_passes 112 = .ok (.aload_n 0, 1) := dk_42 (dk_at dksX4_passes_4 19 rfl rfl)
theorem dX4_passes_113 : decode cX4_passes 113 = .ok (.aload_n 0, 1) := dk_42 (dk_at dksX4_passes_4 20 rfl rfl)
theorem dX4_passes_114 : decode cX4_passes 114 = .ok (.iload_n 2, 1) := dk_28 (dk_at dksX4_passes_4 21 rfl rfl)
theorem dX4_passes_115 : decode cX4_passes 115 = .ok (.iconst 0, 1) := dk_3 (dk_at dksX4_passes_4 22 rfl rfl)
theorem dX4_passes_116 : decode cX4_passes 116 = .ok (.iload_n 3, 1) := dk_29 (dk_at dksX4_passes_4 23 rfl rfl)
theorem dX4_passes_117 : decode cX4_passes 117 = .ok (.invokevirtual 381, 3) := dk_182 1 125 (dk_at dksX4_passes_5 0 rfl rfl)
theorem dX4_passes_120 : decode cX4_passes 120 = .ok (.iload_n 2, 1) := dk_28 (dk_at dksX4_passes_5 3 rfl rfl)
theorem dX4_passes_121 : decode cX4_passes 121 = .ok (.aload_n 0, 1) := dk_42 (dk_at dksX4_passes_5 4 rfl rfl)
theorem dX4_passes_122 : decode cX4_passes 122 = .ok (.iload_n 2, 1) := dk_28 (dk_at dksX4_passes_5 5 rfl rfl)
theorem dX4_passes_123 : decode cX4_passes 123 = .ok (.iconst 1, 1) := dk_4 (dk_at dksX4_passes_5 6 rfl rfl)
theorem dX4_passes_124 : decode cX4_passes 124 = .ok (.iload_n 3, 1) := dk_29 (dk_at dksX4_passes_5 7 rfl rfl)
theorem dX4_passes_125 : decode cX4_passes 125 = .ok (.invokevirtual 381, 3) := dk_182 1 125 (dk_at dksX4_passes_5 8 rfl rfl)
theorem dX4_passes_128 : decode cX4_passes 128 = .ok (.invokevirtual 385, 3) := dk_182 1 129 (dk_at dksX4_passes_5 11 rfl rfl)
theorem dX4_passes_131 : decode cX4_passes 131 = .ok (.iinc 1 1, 3) := dk_132 1 1 (dk_at dksX4_passes_5 14 rfl rfl)
theorem dX4_passes_134 : decode cX4_passes 134 = .ok (.iinc 3 1, 3) := dk_132 3 1 (dk_at dksX4_passes_5 17 rfl rfl)
theorem dX4_passes_137 : decode cX4_passes 137 = .ok (.goto (-45), 3) := dk_167 255 211 (dk_at dksX4_passes_5 20 rfl rfl)
theorem dX4_passes_140 : decode cX4_passes 140 = .ok (.iinc 2 1, 3) := dk_132 2 1 (dk_at dksX4_passes_6 0 rfl rfl)
theorem dX4_passes_143 : decode cX4_passes 143 = .ok (.goto (-63), 3) := dk_167 255 193 (dk_at dksX4_passes_6 3 rfl rfl)
theorem dX4_passes_146 : decode cX4_passes 146 = .ok (.aload_n 0, 1) := dk_42 (dk_at dksX4_passes_6 6 rfl rfl)
theorem dX4_passes_147 : decode cX4_passes 147 = .ok (.getfield 39, 3) := dk_180 0 39 (dk_at dksX4_passes_6 7 rfl rfl)
theorem dX4_passes_150 : decode cX4_passes 150 = .ok (.iconst 3, 1) := dk_6 (dk_at dksX4_passes_6 10 rfl rfl)
theorem dX4_passes_151 : decode cX4_passes 151 = .ok (.dup2, 1) := dk_92 (dk_at dksX4_passes_6 11 rfl rfl)
theorem dX4_passes_152 : decode cX4_passes 152 = .ok (.iaload, 1) := dk_46 (dk_at dksX4_passes_6 12 rfl rfl)
theorem dX4_passes_153 : decode cX4_passes 153 = .ok (.iconst 1, 1) := dk_4 (dk_at dksX4_passes_6 13 rfl rfl)
theorem dX4_passes_154 : decode cX4_passes 154 = .ok (.iadd, 1) := dk_96 (dk_at dksX4_passes_6 14 rfl rfl)
theorem dX4_passes_155 : decode cX4_passes 155 = .ok (.iastore, 1) := dk_79 (dk_at dksX4_passes_6 15 rfl rfl)
theorem dX4_passes_156 : decode cX4_passes 156 = .ok (.iload_n 1, 1) := dk_27 (dk_at dksX4_passes_6 16 rfl rfl)
theorem dX4_passes_157 : decode cX4_passes 157 = .ok (.ireturn, 1) := dk_172 (dk_at dksX4_passes_6 17 rfl rfl)
abbrev cX4_wills : ByteArray := prog_20_method_73_code
def yX4_wills : MethodName := ⟨RX4, "wills", "(I)V"⟩
def dkwX4_wills_5 : List UInt8 := [167, 0, 4, 3, 84, 177]
abbrev dktX4_wills_5 : List UInt8 := dkwX4_wills_5 ++ []
def dkwX4_wills_4 : List UInt8 := [180, 0, 49, 27, 46, 155, 0, 22, 42, 42, 180, 0, 49, 27, 46, 182, 1, 45, 21, 4, 160, 0, 7, 4]
abbrev dktX4_wills_4 : List UInt8 := dkwX4_wills_4 ++ dktX4_wills_5
def dkwX4_wills_3 : List UInt8 := [156, 0, 7, 2, 167, 0, 11, 42, 21, 4, 21, 5, 182, 1, 116, 79, 42, 180, 0, 52, 27, 42]
abbrev dktX4_wills_3 : List UInt8 := dkwX4_wills_3 ++ dktX4_wills_4
def dkwX4_wills_2 : List UInt8 := [42, 180, 0, 49, 27, 32, 9, 148, 156, 0, 12, 42, 21, 4, 182, 1, 113, 167, 0, 20, 21, 5]
abbrev dktX4_wills_2 : List UInt8 := dkwX4_wills_2 ++ dktX4_wills_3
def dkwX4_wills_1 : List UInt8 := [27, 3, 182, 1, 23, 54, 4, 32, 9, 148, 158, 0, 11, 42, 27, 182, 1, 77, 167, 0, 4, 2, 54, 5]
abbrev dktX4_wills_1 : List UInt8 := dkwX4_wills_1 ++ dktX4_wills_2
def dkwX4_wills_0 : List UInt8 := [10, 65, 42, 180, 0, 42, 155, 0, 17, 42, 27, 182, 1, 106, 42, 42, 180, 0, 42, 182, 1, 109, 65, 42]
abbrev dktX4_wills_0 : List UInt8 := dkwX4_wills_0 ++ dktX4_wills_1
theorem dksX4_wills_0 : cX4_wills.data.toList.drop 0 = dktX4_wills_0 := by decide +kernel
theorem dksX4_wills_1 : cX4_wills.data.toList.drop 24 = dktX4_wills_1 := dk_seg dksX4_wills_0 24 rfl rfl
theorem dksX4_wills_2 : cX4_wills.data.toList.drop 48 = dktX4_wills_2 := dk_seg dksX4_wills_1 24 rfl rfl
theorem dksX4_wills_3 : cX4_wills.data.toList.drop 70 = dktX4_wills_3 := dk_seg dksX4_wills_2 22 rfl rfl
theorem dksX4_wills_4 : cX4_wills.data.toList.drop 92 = dktX4_wills_4 := dk_seg dksX4_wills_3 22 rfl rfl
theorem dksX4_wills_5 : cX4_wills.data.toList.drop 116 = dktX4_wills_5 := dk_seg dksX4_wills_4 24 rfl rfl
theorem dX4_wills_0 : decode cX4_wills 0 = .ok (.lconst 1, 1) := dk_10 (dk_at dksX4_wills_0 0 rfl rfl)
theorem dX4_wills_1 : decode cX4_wills 1 = .ok (.lstore_n 2, 1) := dk_65 (dk_at dksX4_wills_0 1 rfl rfl)
theorem dX4_wills_2 : decode cX4_wills 2 = .ok (.aload_n 0, 1) := dk_42 (dk_at dksX4_wills_0 2 rfl rfl)
theorem dX4_wills_3 : decode cX4_wills 3 = .ok (.getfield 42, 3) := dk_180 0 42 (dk_at dksX4_wills_0 3 rfl rfl)
theorem dX4_wills_6 : decode cX4_wills 6 = .ok (.ifCond .lt 17, 3) := dk_155 0 17 (dk_at dksX4_wills_0 6 rfl rfl)
theorem dX4_wills_9 : decode cX4_wills 9 = .ok (.aload_n 0, 1) := dk_42 (dk_at dksX4_wills_0 9 rfl rfl)
theorem dX4_wills_10 : decode cX4_wills 10 = .ok (.iload_n 1, 1) := dk_27 (dk_at dksX4_wills_0 10 rfl rfl)
theorem dX4_wills_11 : decode cX4_wills 11 = .ok (.invokevirtual 362, 3) := dk_182 1 106 (dk_at dksX4_wills_0 11 rfl rfl)
theorem dX4_wills_14 : decode cX4_wills 14 = .ok (.aload_n 0, 1) := dk_42 (dk_at dksX4_wills_0 14 rfl rfl)
theorem dX4_wills_15 : decode cX4_wills 15 = .ok (.aload_n 0, 1) := dk_42 (dk_at dksX4_wills_0 15 rfl rfl)
theorem dX4_wills_16 : decode cX4_wills 16 = .ok (.getfield 42, 3) := dk_180 0 42 (dk_at dksX4_wills_0 16 rfl rfl)
theorem dX4_wills_19 : decode cX4_wills 19 = .ok (.invokevirtual 365, 3) := dk_182 1 109 (dk_at dksX4_wills_0 19 rfl rfl)
theorem dX4_wills_22 : decode cX4_wills 22 = .ok (.lstore_n 2, 1) := dk_65 (dk_at dksX4_wills_0 22 rfl rfl)
theorem dX4_wills_23 : decode cX4_wills 23 = .ok (.aload_n 0, 1) := dk_42 (dk_at dksX4_wills_0 23 rfl rfl)
theorem dX4_wills_24 : decode cX4_wills 24 = .ok (.iload_n 1, 1) := dk_27 (dk_at dksX4_wills_1 0 rfl rfl)
theorem dX4_wills_25 : decode cX4_wills 25 = .ok (.iconst 0, 1) := dk_3 (dk_at dksX4_wills_1 1 rfl rfl)
theorem dX4_wills_26 : decode cX4_wills 26 = .ok (.invokevirtual 279, 3) := dk_182 1 23 (dk_at dksX4_wills_1 2 rfl rfl)
theorem dX4_wills_29 : decode cX4_wills 29 = .ok (.istore 4, 2) := dk_54 4 (dk_at dksX4_wills_1 5 rfl rfl)
theorem dX4_wills_31 : decode cX4_wills 31 = .ok (.lload_n 2, 1) := dk_32 (dk_at dksX4_wills_1 7 rfl rfl)
theorem dX4_wills_32 : decode cX4_wills 32 = .ok (.lconst 0, 1) := dk_9 (dk_at dksX4_wills_1 8 rfl rfl)
theorem dX4_wills_33 : decode cX4_wills 33 = .ok (.lcmp, 1) := dk_148 (dk_at dksX4_wills_1 9 rfl rfl)
theorem dX4_wills_34 : decode cX4_wills 34 = .ok (.ifCond .le 11, 3) := dk_158 0 11 (dk_at dksX4_wills_1 10 rfl rfl)
theorem dX4_wills_37 : decode cX4_wills 37 = .ok (.aload_n 0, 1) := dk_42 (dk_at dksX4_wills_1 13 rfl rfl)
theorem dX4_wills_38 : decode cX4_wills 38 = .ok (.iload_n 1, 1) := dk_27 (dk_at dksX4_wills_1 14 rfl rfl)
theorem dX4_wills_39 : decode cX4_wills 39 = .ok (.invokevirtual 333, 3) := dk_182 1 77 (dk_at dksX4_wills_1 15 rfl rfl)
theorem dX4_wills_42 : decode cX4_wills 42 = .ok (.goto 4, 3) := dk_167 0 4 (dk_at dksX4_wills_1 18 rfl rfl)
theorem dX4_wills_45 : decode cX4_wills 45 = .ok (.iconst (-1), 1) := dk_2 (dk_at dksX4_wills_1 21 rfl rfl)
theorem dX4_wills_46 : decode cX4_wills 46 = .ok (.istore 5, 2) := dk_54 5 (dk_at dksX4_wills_1 22 rfl rfl)
theorem dX4_wills_48 : decode cX4_wills 48 = .ok (.aload_n 0, 1) := dk_42 (dk_at dksX4_wills_2 0 rfl rfl)
theorem dX4_wills_49 : decode cX4_wills 49 = .ok (.getfield 49, 3) := dk_180 0 49 (dk_at dksX4_wills_2 1 rfl rfl)
theorem dX4_wills_52 : decode cX4_wills 52 = .ok (.iload_n 1, 1) := dk_27 (dk_at dksX4_wills_2 4 rfl rfl)
theorem dX4_wills_53 : decode cX4_wills 53 = .ok (.lload_n 2, 1) := dk_32 (dk_at dksX4_wills_2 5 rfl rfl)
theorem dX4_wills_54 : decode cX4_wills 54 = .ok (.lconst 0, 1) := dk_9 (dk_at dksX4_wills_2 6 rfl rfl)
theorem dX4_wills_55 : decode cX4_wills 55 = .ok (.lcmp, 1) := dk_148 (dk_at dksX4_wills_2 7 rfl rfl)
theorem dX4_wills_56 : decode cX4_wills 56 = .ok (.ifCond .ge 12, 3) := dk_156 0 12 (dk_at dksX4_wills_2 8 rfl rfl)
theorem dX4_wills_59 : decode cX4_wills 59 = .ok (.aload_n 0, 1) := dk_42 (dk_at dksX4_wills_2 11 rfl rfl)
theorem dX4_wills_60 : decode cX4_wills 60 = .ok (.iload 4, 2) := dk_21 4 (dk_at dksX4_wills_2 12 rfl rfl)
theorem dX4_wills_62 : decode cX4_wills 62 = .ok (.invokevirtual 369, 3) := dk_182 1 113 (dk_at dksX4_wills_2 14 rfl rfl)
theorem dX4_wills_65 : decode cX4_wills 65 = .ok (.goto 20, 3) := dk_167 0 20 (dk_at dksX4_wills_2 17 rfl rfl)
theorem dX4_wills_68 : decode cX4_wills 68 = .ok (.iload 5, 2) := dk_21 5 (dk_at dksX4_wills_2 20 rfl rfl)
theorem dX4_wills_70 : decode cX4_wills 70 = .ok (.ifCond .ge 7, 3) := dk_156 0 7 (dk_at dksX4_wills_3 0 rfl rfl)
theorem dX4_wills_73 : decode cX4_wills 73 = .ok (.iconst (-1), 1) := dk_2 (dk_at dksX4_wills_3 3 rfl rfl)
theorem dX4_wills_74 : decode cX4_wills 74 = .ok (.goto 11, 3) := dk_167 0 11 (dk_at dksX4_wills_3 4 rfl rfl)
theorem dX4_wills_77 : decode cX4_wills 77 = .ok (.aload_n 0, 1) := dk_42 (dk_at dksX4_wills_3 7 rfl rfl)
theorem dX4_wills_78 : decode cX4_wills 78 = .ok (.iload 4, 2) := dk_21 4 (dk_at dksX4_wills_3 8 rfl rfl)
theorem dX4_wills_80 : decode cX4_wills 80 = .ok (.iload 5, 2) := dk_21 5 (dk_at dksX4_wills_3 10 rfl rfl)
theorem dX4_wills_82 : decode cX4_wills 82 = .ok (.invokevirtual 372, 3) := dk_182 1 116 (dk_at dksX4_wills_3 12 rfl rfl)
theorem dX4_wills_85 : decode cX4_wills 85 = .ok (.iastore, 1) := dk_79 (dk_at dksX4_wills_3 15 rfl rfl)
theorem dX4_wills_86 : decode cX4_wills 86 = .ok (.aload_n 0, 1) := dk_42 (dk_at dksX4_wills_3 16 rfl rfl)
theorem dX4_wills_87 : decode cX4_wills 87 = .ok (.getfield 52, 3) := dk_180 0 52 (dk_at dksX4_wills_3 17 rfl rfl)
theorem dX4_wills_90 : decode cX4_wills 90 = .ok (.iload_n 1, 1) := dk_27 (dk_at dksX4_wills_3 20 rfl rfl)
theorem dX4_wills_91 : decode cX4_wills 91 = .ok (.aload_n 0, 1) := dk_42 (dk_at dksX4_wills_3 21 rfl rfl)
theorem dX4_wills_92 : decode cX4_wills 92 = .ok (.getfield 49, 3) := dk_180 0 49 (dk_at dksX4_wills_4 0 rfl rfl)
theorem dX4_wills_95 : decode cX4_wills 95 = .ok (.iload_n 1, 1) := dk_27 (dk_at dksX4_wills_4 3 rfl rfl)
theorem dX4_wills_96 : decode cX4_wills 96 = .ok (.iaload, 1) := dk_46 (dk_at dksX4_wills_4 4 rfl rfl)
theorem dX4_wills_97 : decode cX4_wills 97 = .ok (.ifCond .lt 22, 3) := dk_155 0 22 (dk_at dksX4_wills_4 5 rfl rfl)
theorem dX4_wills_100 : decode cX4_wills 100 = .ok (.aload_n 0, 1) := dk_42 (dk_at dksX4_wills_4 8 rfl rfl)
theorem dX4_wills_101 : decode cX4_wills 101 = .ok (.aload_n 0, 1) := dk_42 (dk_at dksX4_wills_4 9 rfl rfl)
theorem dX4_wills_102 : decode cX4_wills 102 = .ok (.getfield 49, 3) := dk_180 0 49 (dk_at dksX4_wills_4 10 rfl rfl)
theorem dX4_wills_105 : decode cX4_wills 105 = .ok (.iload_n 1, 1) := dk_27 (dk_at dksX4_wills_4 13 rfl rfl)
theorem dX4_wills_106 : decode cX4_wills 106 = .ok (.iaload, 1) := dk_46 (dk_at dksX4_wills_4 14 rfl rfl)
theorem dX4_wills_107 : decode cX4_wills 107 = .ok (.invokevirtual 301, 3) := dk_182 1 45 (dk_at dksX4_wills_4 15 rfl rfl)
theorem dX4_wills_110 : decode cX4_wills 110 = .ok (.iload 4, 2) := dk_21 4 (dk_at dksX4_wills_4 18 rfl rfl)
theorem dX4_wills_112 : decode cX4_wills 112 = .ok (.if_icmp .ne 7, 3) := dk_160 0 7 (dk_at dksX4_wills_4 20 rfl rfl)
theorem dX4_wills_115 : decode cX4_wills 115 = .ok (.iconst 1, 1) := dk_4 (dk_at dksX4_wills_4 23 rfl rfl)
theorem dX4_wills_116 : decode cX4_wills 116 = .ok (.goto 4, 3) := dk_167 0 4 (dk_at dksX4_wills_5 0 rfl rfl)
theorem dX4_wills_119 : decode cX4_wills 119 = .ok (.iconst 0, 1) := dk_3 (dk_at dksX4_wills_5 3 rfl rfl)
theorem dX4_wills_120 : decode cX4_wills 120 = .ok (.bastore, 1) := dk_84 (dk_at dksX4_wills_5 4 rfl rfl)
theorem dX4_wills_121 : decode cX4_wills 121 = .ok (.return_, 1) := dk_177 (dk_at dksX4_wills_5 5 rfl rfl)
abbrev cX4_words : ByteArray := prog_20_method_70_code
def yX4_words : MethodName := ⟨RX4, "words", "(I)V"⟩
def dkwX4_words_7 : List UInt8 := [16, 11, 42, 27, 182, 1, 99, 133, 80, 177]
abbrev dktX4_words_7 : List UInt8 := dkwX4_words_7 ++ []
def dkwX4_words_6 : List UInt8 := [182, 1, 23, 133, 80, 42, 180, 0, 36, 16, 10, 42, 27, 7, 182, 1, 23, 133, 80, 42, 180, 0, 36]
abbrev dktX4_words_6 : List UInt8 := dkwX4_words_6 ++ dktX4_words_7
def dkwX4_words_5 : List UInt8 := [182, 1, 85, 4, 27, 120, 2, 130, 126, 184, 1, 96, 133, 80, 42, 180, 0, 36, 16, 9, 42, 27, 6]
abbrev dktX4_words_5 : List UInt8 := dkwX4_words_5 ++ dktX4_words_6
def dkwX4_words_4 : List UInt8 := [16, 7, 42, 182, 1, 51, 153, 0, 7, 10, 167, 0, 4, 9, 80, 42, 180, 0, 36, 16, 8, 42, 28]
abbrev dktX4_words_4 : List UInt8 := dkwX4_words_4 ++ dktX4_words_5
def dkwX4_words_3 : List UInt8 := [5, 182, 1, 23, 133, 80, 42, 180, 0, 36, 16, 6, 42, 180, 0, 39, 6, 46, 133, 80, 42, 180, 0, 36]
abbrev dktX4_words_3 : List UInt8 := dkwX4_words_3 ++ dktX4_words_4
def dkwX4_words_2 : List UInt8 := [182, 1, 23, 133, 80, 42, 180, 0, 36, 7, 42, 27, 182, 1, 63, 133, 80, 42, 180, 0, 36, 8, 42, 27]
abbrev dktX4_words_2 : List UInt8 := dkwX4_words_2 ++ dktX4_words_3
def dkwX4_words_1 : List UInt8 := [180, 0, 36, 5, 42, 180, 0, 39, 16, 34, 28, 96, 46, 133, 80, 42, 180, 0, 36, 6, 42, 27, 4]
abbrev dktX4_words_1 : List UInt8 := dkwX4_words_1 ++ dktX4_words_2
def dkwX4_words_0 : List UInt8 := [42, 27, 3, 182, 1, 23, 61, 42, 180, 0, 36, 3, 27, 133, 80, 42, 180, 0, 36, 4, 28, 133, 80, 42]
abbrev dktX4_words_0 : List UInt8 := dkwX4_words_0 ++ dktX4_words_1
theorem dksX4_words_0 : cX4_words.data.toList.drop 0 = dktX4_words_0 := by decide +kernel
theorem dksX4_words_1 : cX4_words.data.toList.drop 24 = dktX4_words_1 := dk_seg dksX4_words_0 24 rfl rfl
theorem dksX4_words_2 : cX4_words.data.toList.drop 47 = dktX4_words_2 := dk_seg dksX4_words_1 23 rfl rfl
theorem dksX4_words_3 : cX4_words.data.toList.drop 71 = dktX4_words_3 := dk_seg dksX4_words_2 24 rfl rfl
theorem dksX4_words_4 : cX4_words.data.toList.drop 95 = dktX4_words_4 := dk_seg dksX4_words_3 24 rfl rfl
theorem dksX4_words_5 : cX4_words.data.toList.drop 118 = dktX4_words_5 := dk_seg dksX4_words_4 23 rfl rfl
theorem dksX4_words_6 : cX4_words.data.toList.drop 141 = dktX4_words_6 := dk_seg dksX4_words_5 23 rfl rfl
theorem dksX4_words_7 : cX4_words.data.toList.drop 164 = dktX4_words_7 := dk_seg dksX4_words_6 23 rfl rfl
theorem dX4_words_0 : decode cX4_words 0 = .ok (.aload_n 0, 1) := dk_42 (dk_at dksX4_words_0 0 rfl rfl)
theorem dX4_words_1 : decode cX4_words 1 = .ok (.iload_n 1, 1) := dk_27 (dk_at dksX4_words_0 1 rfl rfl)
theorem dX4_words_2 : decode cX4_words 2 = .ok (.iconst 0, 1) := dk_3 (dk_at dksX4_words_0 2 rfl rfl)
theorem dX4_words_3 : decode cX4_words 3 = .ok (.invokevirtual 279, 3) := dk_182 1 23 (dk_at dksX4_words_0 3 rfl rfl)
theorem dX4_words_6 : decode cX4_words 6 = .ok (.istore_n 2, 1) := dk_61 (dk_at dksX4_words_0 6 rfl rfl)
theorem dX4_words_7 : decode cX4_words 7 = .ok (.aload_n 0, 1) := dk_42 (dk_at dksX4_words_0 7 rfl rfl)
theorem dX4_words_8 : decode cX4_words 8 = .ok (.getfield 36, 3) := dk_180 0 36 (dk_at dksX4_words_0 8 rfl rfl)
theorem dX4_words_11 : decode cX4_words 11 = .ok (.iconst 0, 1) := dk_3 (dk_at dksX4_words_0 11 rfl rfl)
theorem dX4_words_12 : decode cX4_words 12 = .ok (.iload_n 1, 1) := dk_27 (dk_at dksX4_words_0 12 rfl rfl)
theorem dX4_words_13 : decode cX4_words 13 = .ok (.i2l, 1) := dk_133 (dk_at dksX4_words_0 13 rfl rfl)
theorem dX4_words_14 : decode cX4_words 14 = .ok (.lastore, 1) := dk_80 (dk_at dksX4_words_0 14 rfl rfl)
theorem dX4_words_15 : decode cX4_words 15 = .ok (.aload_n 0, 1) := dk_42 (dk_at dksX4_words_0 15 rfl rfl)
theorem dX4_words_16 : decode cX4_words 16 = .ok (.getfield 36, 3) := dk_180 0 36 (dk_at dksX4_words_0 16 rfl rfl)
theorem dX4_words_19 : decode cX4_words 19 = .ok (.iconst 1, 1) := dk_4 (dk_at dksX4_words_0 19 rfl rfl)
theorem dX4_words_20 : decode cX4_words 20 = .ok (.iload_n 2, 1) := dk_28 (dk_at dksX4_words_0 20 rfl rfl)
theorem dX4_words_21 : decode cX4_words 21 = .ok (.i2l, 1) := dk_133 (dk_at dksX4_words_0 21 rfl rfl)
theorem dX4_words_22 : decode cX4_words 22 = .ok (.lastore, 1) := dk_80 (dk_at dksX4_words_0 22 rfl rfl)
theorem dX4_words_23 : decode cX4_words 23 = .ok (.aload_n 0, 1) := dk_42 (dk_at dksX4_words_0 23 rfl rfl)
theorem dX4_words_24 : decode cX4_words 24 = .ok (.getfield 36, 3) := dk_180 0 36 (dk_at dksX4_words_1 0 rfl rfl)
theorem dX4_words_27 : decode cX4_words 27 = .ok (.iconst 2, 1) := dk_5 (dk_at dksX4_words_1 3 rfl rfl)
theorem dX4_words_28 : decode cX4_words 28 = .ok (.aload_n 0, 1) := dk_42 (dk_at dksX4_words_1 4 rfl rfl)
theorem dX4_words_29 : decode cX4_words 29 = .ok (.getfield 39, 3) := dk_180 0 39 (dk_at dksX4_words_1 5 rfl rfl)
theorem dX4_words_32 : decode cX4_words 32 = .ok (.bipush 34, 2) := dk_16 34 (dk_at dksX4_words_1 8 rfl rfl)
theorem dX4_words_34 : decode cX4_words 34 = .ok (.iload_n 2, 1) := dk_28 (dk_at dksX4_words_1 10 rfl rfl)
theorem dX4_words_35 : decode cX4_words 35 = .ok (.iadd, 1) := dk_96 (dk_at dksX4_words_1 11 rfl rfl)
theorem dX4_words_36 : decode cX4_words 36 = .ok (.iaload, 1) := dk_46 (dk_at dksX4_words_1 12 rfl rfl)
theorem dX4_words_37 : decode cX4_words 37 = .ok (.i2l, 1) := dk_133 (dk_at dksX4_words_1 13 rfl rfl)
theorem dX4_words_38 : decode cX4_words 38 = .ok (.lastore, 1) := dk_80 (dk_at dksX4_words_1 14 rfl rfl)
theorem dX4_words_39 : decode cX4_words 39 = .ok (.aload_n 0, 1) := dk_42 (dk_at dksX4_words_1 15 rfl rfl)
theorem dX4_words_40 : decode cX4_words 40 = .ok (.getfield 36, 3) := dk_180 0 36 (dk_at dksX4_words_1 16 rfl rfl)
theorem dX4_words_43 : decode cX4_words 43 = .ok (.iconst 3, 1) := dk_6 (dk_at dksX4_words_1 19 rfl rfl)
theorem dX4_words_44 : decode cX4_words 44 = .ok (.aload_n 0, 1) := dk_42 (dk_at dksX4_words_1 20 rfl rfl)
theorem dX4_words_45 : decode cX4_words 45 = .ok (.iload_n 1, 1) := dk_27 (dk_at dksX4_words_1 21 rfl rfl)
theorem dX4_words_46 : decode cX4_words 46 = .ok (.iconst 1, 1) := dk_4 (dk_at dksX4_words_1 22 rfl rfl)
theorem dX4_words_47 : decode cX4_words 47 = .ok (.invokevirtual 279, 3) := dk_182 1 23 (dk_at dksX4_words_2 0 rfl rfl)
theorem dX4_words_50 : decode cX4_words 50 = .ok (.i2l, 1) := dk_133 (dk_at dksX4_words_2 3 rfl rfl)
theorem dX4_words_51 : decode cX4_words 51 = .ok (.lastore, 1) := dk_80 (dk_at dksX4_words_2 4 rfl rfl)
theorem dX4_words_52 : decode cX4_words 52 = .ok (.aload_n 0, 1) := dk_42 (dk_at dksX4_words_2 5 rfl rfl)
theorem dX4_words_53 : decode cX4_words 53 = .ok (.getfield 36, 3) := dk_180 0 36 (dk_at dksX4_words_2 6 rfl rfl)
theorem dX4_words_56 : decode cX4_words 56 = .ok (.iconst 4, 1) := dk_7 (dk_at dksX4_words_2 9 rfl rfl)
theorem dX4_words_57 : decode cX4_words 57 = .ok (.aload_n 0, 1) := dk_42 (dk_at dksX4_words_2 10 rfl rfl)
theorem dX4_words_58 : decode cX4_words 58 = .ok (.iload_n 1, 1) := dk_27 (dk_at dksX4_words_2 11 rfl rfl)
theorem dX4_words_59 : decode cX4_words 59 = .ok (.invokevirtual 319, 3) := dk_182 1 63 (dk_at dksX4_words_2 12 rfl rfl)
theorem dX4_words_62 : decode cX4_words 62 = .ok (.i2l, 1) := dk_133 (dk_at dksX4_words_2 15 rfl rfl)
theorem dX4_words_63 : decode cX4_words 63 = .ok (.lastore, 1) := dk_80 (dk_at dksX4_words_2 16 rfl rfl)
theorem dX4_words_64 : decode cX4_words 64 = .ok (.aload_n 0, 1) := dk_42 (dk_at dksX4_words_2 17 rfl rfl)
theorem dX4_words_65 : decode cX4_words 65 = .ok (.getfield 36, 3) := dk_180 0 36 (dk_at dksX4_words_2 18 rfl rfl)
theorem dX4_words_68 : decode cX4_words 68 = .ok (.iconst 5, 1) := dk_8 (dk_at dksX4_words_2 21 rfl rfl)
theorem dX4_words_69 : decode cX4_words 69 = .ok (.aload_n 0, 1) := dk_42 (dk_at dksX4_words_2 22 rfl rfl)
theorem dX4_words_70 : decode cX4_words 70 = .ok (.iload_n 1, 1) := dk_27 (dk_at dksX4_words_2 23 rfl rfl)
theorem dX4_words_71 : decode cX4_words 71 = .ok (.iconst 2, 1) := dk_5 (dk_at dksX4_words_3 0 rfl rfl)
theorem dX4_words_72 : decode cX4_words 72 = .ok (.invokevirtual 279, 3) := dk_182 1 23 (dk_at dksX4_words_3 1 rfl rfl)
theorem dX4_words_75 : decode cX4_words 75 = .ok (.i2l, 1) := dk_133 (dk_at dksX4_words_3 4 rfl rfl)
theorem dX4_words_76 : decode cX4_words 76 = .ok (.lastore, 1) := dk_80 (dk_at dksX4_words_3 5 rfl rfl)
theorem dX4_words_77 : decode cX4_words 77 = .ok (.aload_n 0, 1) := dk_42 (dk_at dksX4_words_3 6 rfl rfl)
theorem dX4_words_78 : decode cX4_words 78 = .ok (.getfield 36, 3) := dk_180 0 36 (dk_at dksX4_words_3 7 rfl rfl)
theorem dX4_words_81 : decode cX4_words 81 = .ok (.bipush 6, 2) := dk_16 6 (dk_at dksX4_words_3 10 rfl rfl)
theorem dX4_words_83 : decode cX4_words 83 = .ok (.aload_n 0, 1) := dk_42 (dk_at dksX4_words_3 12 rfl rfl)
theorem dX4_words_84 : decode cX4_words 84 = .ok (.getfield 39, 3) := dk_180 0 39 (dk_at dksX4_words_3 13 rfl rfl)
theorem dX4_words_87 : decode cX4_words 87 = .ok (.iconst 3, 1) := dk_6 (dk_at dksX4_words_3 16 rfl rfl)
theorem dX4_words_88 : decode cX4_words 88 = .ok (.iaload, 1) := dk_46 (dk_at dksX4_words_3 17 rfl rfl)
theorem dX4_words_89 : decode cX4_words 89 = .ok (.i2l, 1) := dk_133 (dk_at dksX4_words_3 18 rfl rfl)
theorem dX4_words_90 : decode cX4_words 90 = .ok (.lastore, 1) := dk_80 (dk_at dksX4_words_3 19 rfl rfl)
theorem dX4_words_91 : decode cX4_words 91 = .ok (.aload_n 0, 1) := dk_42 (dk_at dksX4_words_3 20 rfl rfl)
theorem dX4_words_92 : decode cX4_words 92 = .ok (.getfield 36, 3) := dk_180 0 36 (dk_at dksX4_words_3 21 rfl rfl)
theorem dX4_words_95 : decode cX4_words 95 = .ok (.bipush 7, 2) := dk_16 7 (dk_at dksX4_words_4 0 rfl rfl)
theorem dX4_words_97 : decode cX4_words 97 = .ok (.aload_n 0, 1) := dk_42 (dk_at dksX4_words_4 2 rfl rfl)
theorem dX4_words_98 : decode cX4_words 98 = .ok (.invokevirtual 307, 3) := dk_182 1 51 (dk_at dksX4_words_4 3 rfl rfl)
theorem dX4_words_101 : decode cX4_words 101 = .ok (.ifCond .eq 7, 3) := dk_153 0 7 (dk_at dksX4_words_4 6 rfl rfl)
theorem dX4_words_104 : decode cX4_words 104 = .ok (.lconst 1, 1) := dk_10 (dk_at dksX4_words_4 9 rfl rfl)
theorem dX4_words_105 : decode cX4_words 105 = .ok (.goto 4, 3) := dk_167 0 4 (dk_at dksX4_words_4 10 rfl rfl)
theorem dX4_words_108 : decode cX4_words 108 = .ok (.lconst 0, 1) := dk_9 (dk_at dksX4_words_4 13 rfl rfl)
theorem dX4_words_109 : decode cX4_words 109 = .ok (.lastore, 1) := dk_80 (dk_at dksX4_words_4 14 rfl rfl)
theorem dX4_words_110 : decode cX4_words 110 = .ok (.aload_n 0, 1) := dk_42 (dk_at dksX4_words_4 15 rfl rfl)
theorem dX4_words_111 : decode cX4_words 111 = .ok (.getfield 36, 3) := dk_180 0 36 (dk_at dksX4_words_4 16 rfl rfl)
theorem dX4_words_114 : decode cX4_words 114 = .ok (.bipush 8, 2) := dk_16 8 (dk_at dksX4_words_4 19 rfl rfl)
theorem dX4_words_116 : decode cX4_words 116 = .ok (.aload_n 0, 1) := dk_42 (dk_at dksX4_words_4 21 rfl rfl)
theorem dX4_words_117 : decode cX4_words 117 = .ok (.iload_n 2, 1) := dk_28 (dk_at dksX4_words_4 22 rfl rfl)
theorem dX4_words_118 : decode cX4_words 118 = .ok (.invokevirtual 341, 3) := dk_182 1 85 (dk_at dksX4_words_5 0 rfl rfl)
theorem dX4_words_121 : decode cX4_words 121 = .ok (.iconst 1, 1) := dk_4 (dk_at dksX4_words_5 3 rfl rfl)
theorem dX4_words_122 : decode cX4_words 122 = .ok (.iload_n 1, 1) := dk_27 (dk_at dksX4_words_5 4 rfl rfl)
theorem dX4_words_123 : decode cX4_words 123 = .ok (.ishl, 1) := dk_120 (dk_at dksX4_words_5 5 rfl rfl)
theorem dX4_words_124 : decode cX4_words 124 = .ok (.iconst (-1), 1) := dk_2 (dk_at dksX4_words_5 6 rfl rfl)
theorem dX4_words_125 : decode cX4_words 125 = .ok (.ixor, 1) := dk_130 (dk_at dksX4_words_5 7 rfl rfl)
theorem dX4_words_126 : decode cX4_words 126 = .ok (.iand, 1) := dk_126 (dk_at dksX4_words_5 8 rfl rfl)
theorem dX4_words_127 : decode cX4_words 127 = .ok (.invokestatic 352, 3) := dk_184 1 96 (dk_at dksX4_words_5 9 rfl rfl)
theorem dX4_words_130 : decode cX4_words 130 = .ok (.i2l, 1) := dk_133 (dk_at dksX4_words_5 12 rfl rfl)
theorem dX4_words_131 : decode cX4_words 131 = .ok (.lastore, 1) := dk_80 (dk_at dksX4_words_5 13 rfl rfl)
theorem dX4_words_132 : decode cX4_words 132 = .ok (.aload_n 0, 1) := dk_42 (dk_at dksX4_words_5 14 rfl rfl)
theorem dX4_words_133 : decode cX4_words 133 = .ok (.getfield 36, 3) := dk_180 0 36 (dk_at dksX4_words_5 15 rfl rfl)
theorem dX4_words_136 : decode cX4_words 136 = .ok (.bipush 9, 2) := dk_16 9 (dk_at dksX4_words_5 18 rfl rfl)
theorem dX4_words_138 : decode cX4_words 138 = .ok (.aload_n 0, 1) := dk_42 (dk_at dksX4_words_5 20 rfl rfl)
theorem dX4_words_139 : decode cX4_words 139 = .ok (.iload_n 1, 1) := dk_27 (dk_at dksX4_words_5 21 rfl rfl)
theorem dX4_words_140 : decode cX4_words 140 = .ok (.iconst 3, 1) := dk_6 (dk_at dksX4_words_5 22 rfl rfl)
theorem dX4_words_141 : decode cX4_words 141 = .ok (.invokevirtual 279, 3) := dk_182 1 23 (dk_at dksX4_words_6 0 rfl rfl)
theorem dX4_words_144 : decode cX4_words 144 = .ok (.i2l, 1) := dk_133 (dk_at dksX4_words_6 3 rfl rfl)
theorem dX4_words_145 : decode cX4_words 145 = .ok (.lastore, 1) := dk_80 (dk_at dksX4_words_6 4 rfl rfl)
theorem dX4_words_146 : decode cX4_words 146 = .ok (.aload_n 0, 1) := dk_42 (dk_at dksX4_words_6 5 rfl rfl)
theorem dX4_words_147 : decode cX4_words 147 = .ok (.getfield 36, 3) := dk_180 0 36 (dk_at dksX4_words_6 6 rfl rfl)
theorem dX4_words_150 : decode cX4_words 150 = .ok (.bipush 10, 2) := dk_16 10 (dk_at dksX4_words_6 9 rfl rfl)
theorem dX4_words_152 : decode cX4_words 152 = .ok (.aload_n 0, 1) := dk_42 (dk_at dksX4_words_6 11 rfl rfl)
theorem dX4_words_153 : decode cX4_words 153 = .ok (.iload_n 1, 1) := dk_27 (dk_at dksX4_words_6 12 rfl rfl)
theorem dX4_words_154 : decode cX4_words 154 = .ok (.iconst 4, 1) := dk_7 (dk_at dksX4_words_6 13 rfl rfl)
theorem dX4_words_155 : decode cX4_words 155 = .ok (.invokevirtual 279, 3) := dk_182 1 23 (dk_at dksX4_words_6 14 rfl rfl)
theorem dX4_words_158 : decode cX4_words 158 = .ok (.i2l, 1) := dk_133 (dk_at dksX4_words_6 17 rfl rfl)
theorem dX4_words_159 : decode cX4_words 159 = .ok (.lastore, 1) := dk_80 (dk_at dksX4_words_6 18 rfl rfl)
theorem dX4_words_160 : decode cX4_words 160 = .ok (.aload_n 0, 1) := dk_42 (dk_at dksX4_words_6 19 rfl rfl)
theorem dX4_words_161 : decode cX4_words 161 = .ok (.getfield 36, 3) := dk_180 0 36 (dk_at dksX4_words_6 20 rfl rfl)
theorem dX4_words_164 : decode cX4_words 164 = .ok (.bipush 11, 2) := dk_16 11 (dk_at dksX4_words_7 0 rfl rfl)
theorem dX4_words_166 : decode cX4_words 166 = .ok (.aload_n 0, 1) := dk_42 (dk_at dksX4_words_7 2 rfl rfl)
theorem dX4_words_167 : decode cX4_words 167 = .ok (.iload_n 1, 1) := dk_27 (dk_at dksX4_words_7 3 rfl rfl)
theorem dX4_words_168 : decode cX4_words 168 = .ok (.invokevirtual 355, 3) := dk_182 1 99 (dk_at dksX4_words_7 4 rfl rfl)
theorem dX4_words_171 : decode cX4_words 171 = .ok (.i2l, 1) := dk_133 (dk_at dksX4_words_7 7 rfl rfl)
theorem dX4_words_172 : decode cX4_words 172 = .ok (.lastore, 1) := dk_80 (dk_at dksX4_words_7 8 rfl rfl)
theorem dX4_words_173 : decode cX4_words 173 = .ok (.return_, 1) := dk_177 (dk_at dksX4_words_7 9 rfl rfl)
abbrev cX4_bits : ByteArray := prog_20_method_69_code
def yX4_bits : MethodName := ⟨RX4, "bits", "(I)I"⟩
def dkwX4_bits_0 : List UInt8 := [3, 60, 26, 61, 28, 153, 0, 15, 132, 1, 1, 28, 28, 4, 100, 126, 61, 167, 255, 243, 27, 172]
abbrev dktX4_bits_0 : List UInt8 := dkwX4_bits_0 ++ []
theorem dksX4_bits_0 : cX4_bits.data.toList.drop 0 = dktX4_bits_0 := by decide +kernel
theorem dX4_bits_0 : decode cX4_bits 0 = .ok (.iconst 0, 1) := dk_3 (dk_at dksX4_bits_0 0 rfl rfl)
theorem dX4_bits_1 : decode cX4_bits 1 = .ok (.istore_n 1, 1) := dk_60 (dk_at dksX4_bits_0 1 rfl rfl)
theorem dX4_bits_2 : decode cX4_bits 2 = .ok (.iload_n 0, 1) := dk_26 (dk_at dksX4_bits_0 2 rfl rfl)
theorem dX4_bits_3 : decode cX4_bits 3 = .ok (.istore_n 2, 1) := dk_61 (dk_at dksX4_bits_0 3 rfl rfl)
theorem dX4_bits_4 : decode cX4_bits 4 = .ok (.iload_n 2, 1) := dk_28 (dk_at dksX4_bits_0 4 rfl rfl)
theorem dX4_bits_5 : decode cX4_bits 5 = .ok (.ifCond .eq 15, 3) := dk_153 0 15 (dk_at dksX4_bits_0 5 rfl rfl)
theorem dX4_bits_8 : decode cX4_bits 8 = .ok (.iinc 1 1, 3) := dk_132 1 1 (dk_at dksX4_bits_0 8 rfl rfl)
theorem dX4_bits_11 : decode cX4_bits 11 = .ok (.iload_n 2, 1) := dk_28 (dk_at dksX4_bits_0 11 rfl rfl)
theorem dX4_bits_12 : decode cX4_bits 12 = .ok (.iload_n 2, 1) := dk_28 (dk_at dksX4_bits_0 12 rfl rfl)
theorem dX4_bits_13 : decode cX4_bits 13 = .ok (.iconst 1, 1) := dk_4 (dk_at dksX4_bits_0 13 rfl rfl)
theorem dX4_bits_14 : decode cX4_bits 14 = .ok (.isub, 1) := dk_100 (dk_at dksX4_bits_0 14 rfl rfl)
theorem dX4_bits_15 : decode cX4_bits 15 = .ok (.iand, 1) := dk_126 (dk_at dksX4_bits_0 15 rfl rfl)
theorem dX4_bits_16 : decode cX4_bits 16 = .ok (.istore_n 2, 1) := dk_61 (dk_at dksX4_bits_0 16 rfl rfl)
theorem dX4_bits_17 : decode cX4_bits 17 = .ok (.goto (-13), 3) := dk_167 255 243 (dk_at dksX4_bits_0 17 rfl rfl)
theorem dX4_bits_20 : decode cX4_bits 20 = .ok (.iload_n 1, 1) := dk_27 (dk_at dksX4_bits_0 20 rfl rfl)
theorem dX4_bits_21 : decode cX4_bits 21 = .ok (.ireturn, 1) := dk_172 (dk_at dksX4_bits_0 21 rfl rfl)
abbrev cX4_askersOf : ByteArray := prog_20_method_68_code
def yX4_askersOf : MethodName := ⟨RX4, "askersOf", "(I)I"⟩
def dkwX4_askersOf_3 : List UInt8 := [182, 1, 23, 96, 46, 164, 0, 7, 4, 167, 0, 4, 3, 96, 61, 132, 3, 1, 167, 255, 173, 28, 172]
abbrev dktX4_askersOf_3 : List UInt8 := dkwX4_askersOf_3 ++ []
def dkwX4_askersOf_2 : List UInt8 := [180, 0, 39, 16, 34, 42, 29, 3, 182, 1, 23, 96, 46, 42, 180, 0, 39, 16, 34, 42, 27, 3]
abbrev dktX4_askersOf_2 : List UInt8 := dkwX4_askersOf_2 ++ dktX4_askersOf_3
def dkwX4_askersOf_1 : List UInt8 := [42, 27, 3, 182, 1, 23, 160, 0, 7, 4, 167, 0, 4, 3, 54, 4, 28, 21, 4, 153, 0, 38, 42]
abbrev dktX4_askersOf_1 : List UInt8 := dkwX4_askersOf_1 ++ dktX4_askersOf_2
def dkwX4_askersOf_0 : List UInt8 := [3, 61, 3, 62, 29, 42, 180, 0, 39, 5, 46, 162, 0, 79, 29, 27, 159, 0, 21, 42, 29, 182, 1, 77]
abbrev dktX4_askersOf_0 : List UInt8 := dkwX4_askersOf_0 ++ dktX4_askersOf_1
theorem dksX4_askersOf_0 : cX4_askersOf.data.toList.drop 0 = dktX4_askersOf_0 := by decide +kernel
theorem dksX4_askersOf_1 : cX4_askersOf.data.toList.drop 24 = dktX4_askersOf_1 := dk_seg dksX4_askersOf_0 24 rfl rfl
theorem dksX4_askersOf_2 : cX4_askersOf.data.toList.drop 47 = dktX4_askersOf_2 := dk_seg dksX4_askersOf_1 23 rfl rfl
theorem dksX4_askersOf_3 : cX4_askersOf.data.toList.drop 69 = dktX4_askersOf_3 := dk_seg dksX4_askersOf_2 22 rfl rfl
theorem dX4_askersOf_0 : decode cX4_askersOf 0 = .ok (.iconst 0, 1) := dk_3 (dk_at dksX4_askersOf_0 0 rfl rfl)
theorem dX4_askersOf_1 : decode cX4_askersOf 1 = .ok (.istore_n 2, 1) := dk_61 (dk_at dksX4_askersOf_0 1 rfl rfl)
theorem dX4_askersOf_2 : decode cX4_askersOf 2 = .ok (.iconst 0, 1) := dk_3 (dk_at dksX4_askersOf_0 2 rfl rfl)
theorem dX4_askersOf_3 : decode cX4_askersOf 3 = .ok (.istore_n 3, 1) := dk_62 (dk_at dksX4_askersOf_0 3 rfl rfl)
theorem dX4_askersOf_4 : decode cX4_askersOf 4 = .ok (.iload_n 3, 1) := dk_29 (dk_at dksX4_askersOf_0 4 rfl rfl)
theorem dX4_askersOf_5 : decode cX4_askersOf 5 = .ok (.aload_n 0, 1) := dk_42 (dk_at dksX4_askersOf_0 5 rfl rfl)
theorem dX4_askersOf_6 : decode cX4_askersOf 6 = .ok (.getfield 39, 3) := dk_180 0 39 (dk_at dksX4_askersOf_0 6 rfl rfl)
theorem dX4_askersOf_9 : decode cX4_askersOf 9 = .ok (.iconst 2, 1) := dk_5 (dk_at dksX4_askersOf_0 9 rfl rfl)
theorem dX4_askersOf_10 : decode cX4_askersOf 10 = .ok (.iaload, 1) := dk_46 (dk_at dksX4_askersOf_0 10 rfl rfl)
theorem dX4_askersOf_11 : decode cX4_askersOf 11 = .ok (.if_icmp .ge 79, 3) := dk_162 0 79 (dk_at dksX4_askersOf_0 11 rfl rfl)
theorem dX4_askersOf_14 : decode cX4_askersOf 14 = .ok (.iload_n 3, 1) := dk_29 (dk_at dksX4_askersOf_0 14 rfl rfl)
theorem dX4_askersOf_15 : decode cX4_askersOf 15 = .ok (.iload_n 1, 1) := dk_27 (dk_at dksX4_askersOf_0 15 rfl rfl)
theorem dX4_askersOf_16 : decode cX4_askersOf 16 = .ok (.if_icmp .eq 21, 3) := dk_159 0 21 (dk_at dksX4_askersOf_0 16 rfl rfl)
theorem dX4_askersOf_19 : decode cX4_askersOf 19 = .ok (.aload_n 0, 1) := dk_42 (dk_at dksX4_askersOf_0 19 rfl rfl)
theorem dX4_askersOf_20 : decode cX4_askersOf 20 = .ok (.iload_n 3, 1) := dk_29 (dk_at dksX4_askersOf_0 20 rfl rfl)
theorem dX4_askersOf_21 : decode cX4_askersOf 21 = .ok (.invokevirtual 333, 3) := dk_182 1 77 (dk_at dksX4_askersOf_0 21 rfl rfl)
theorem dX4_askersOf_24 : decode cX4_askersOf 24 = .ok (.aload_n 0, 1) := dk_42 (dk_at dksX4_askersOf_1 0 rfl rfl)
theorem dX4_askersOf_25 : decode cX4_askersOf 25 = .ok (.iload_n 1, 1) := dk_27 (dk_at dksX4_askersOf_1 1 rfl rfl)
theorem dX4_askersOf_26 : decode cX4_askersOf 26 = .ok (.iconst 0, 1) := dk_3 (dk_at dksX4_askersOf_1 2 rfl rfl)
theorem dX4_askersOf_27 : decode cX4_askersOf 27 = .ok (.invokevirtual 279, 3) := dk_182 1 23 (dk_at dksX4_askersOf_1 3 rfl rfl)
theorem dX4_askersOf_30 : decode cX4_askersOf 30 = .ok (.if_icmp .ne 7, 3) := dk_160 0 7 (dk_at dksX4_askersOf_1 6 rfl rfl)
theorem dX4_askersOf_33 : decode cX4_askersOf 33 = .ok (.iconst 1, 1) := dk_4 (dk_at dksX4_askersOf_1 9 rfl rfl)
theorem dX4_askersOf_34 : decode cX4_askersOf 34 = .ok (.goto 4, 3) := dk_167 0 4 (dk_at dksX4_askersOf_1 10 rfl rfl)
theorem dX4_askersOf_37 : decode cX4_askersOf 37 = .ok (.iconst 0, 1) := dk_3 (dk_at dksX4_askersOf_1 13 rfl rfl)
theorem dX4_askersOf_38 : decode cX4_askersOf 38 = .ok (.istore 4, 2) := dk_54 4 (dk_at dksX4_askersOf_1 14 rfl rfl)
theorem dX4_askersOf_40 : decode cX4_askersOf 40 = .ok (.iload_n 2, 1) := dk_28 (dk_at dksX4_askersOf_1 16 rfl rfl)
theorem dX4_askersOf_41 : decode cX4_askersOf 41 = .ok (.iload 4, 2) := dk_21 4 (dk_at dksX4_askersOf_1 17 rfl rfl)
theorem dX4_askersOf_43 : decode cX4_askersOf 43 = .ok (.ifCond .eq 38, 3) := dk_153 0 38 (dk_at dksX4_askersOf_1 19 rfl rfl)
theorem dX4_askersOf_46 : decode cX4_askersOf 46 = .ok (.aload_n 0, 1) := dk_42 (dk_at dksX4_askersOf_1 22 rfl rfl)
theorem dX4_askersOf_47 : decode cX4_askersOf 47 = .ok (.getfield 39, 3) := dk_180 0 39 (dk_at dksX4_askersOf_2 0 rfl rfl)
theorem dX4_askersOf_50 : decode cX4_askersOf 50 = .ok (.bipush 34, 2) := dk_16 34 (dk_at dksX4_askersOf_2 3 rfl rfl)
theorem dX4_askersOf_52 : decode cX4_askersOf 52 = .ok (.aload_n 0, 1) := dk_42 (dk_at dksX4_askersOf_2 5 rfl rfl)
theorem dX4_askersOf_53 : decode cX4_askersOf 53 = .ok (.iload_n 3, 1) := dk_29 (dk_at dksX4_askersOf_2 6 rfl rfl)
theorem dX4_askersOf_54 : decode cX4_askersOf 54 = .ok (.iconst 0, 1) := dk_3 (dk_at dksX4_askersOf_2 7 rfl rfl)
theorem dX4_askersOf_55 : decode cX4_askersOf 55 = .ok (.invokevirtual 279, 3) := dk_182 1 23 (dk_at dksX4_askersOf_2 8 rfl rfl)
theorem dX4_askersOf_58 : decode cX4_askersOf 58 = .ok (.iadd, 1) := dk_96 (dk_at dksX4_askersOf_2 11 rfl rfl)
theorem dX4_askersOf_59 : decode cX4_askersOf 59 = .ok (.iaload, 1) := dk_46 (dk_at dksX4_askersOf_2 12 rfl rfl)
theorem dX4_askersOf_60 : decode cX4_askersOf 60 = .ok (.aload_n 0, 1) := dk_42 (dk_at dksX4_askersOf_2 13 rfl rfl)
theorem dX4_askersOf_61 : decode cX4_askersOf 61 = .ok (.getfield 39, 3) := dk_180 0 39 (dk_at dksX4_askersOf_2 14 rfl rfl)
theorem dX4_askersOf_64 : decode cX4_askersOf 64 = .ok (.bipush 34, 2) := dk_16 34 (dk_at dksX4_askersOf_2 17 rfl rfl)
theorem dX4_askersOf_66 : decode cX4_askersOf 66 = .ok (.aload_n 0, 1) := dk_42 (dk_at dksX4_askersOf_2 19 rfl rfl)
theorem dX4_askersOf_67 : decode cX4_askersOf 67 = .ok (.iload_n 1, 1) := dk_27 (dk_at dksX4_askersOf_2 20 rfl rfl)
theorem dX4_askersOf_68 : decode cX4_askersOf 68 = .ok (.iconst 0, 1) := dk_3 (dk_at dksX4_askersOf_2 21 rfl rfl)
theorem dX4_askersOf_69 : decode cX4_askersOf 69 = .ok (.invokevirtual 279, 3) := dk_182 1 23 (dk_at dksX4_askersOf_3 0 rfl rfl)
theorem dX4_askersOf_72 : decode cX4_askersOf 72 = .ok (.iadd, 1) := dk_96 (dk_at dksX4_askersOf_3 3 rfl rfl)
theorem dX4_askersOf_73 : decode cX4_askersOf 73 = .ok (.iaload, 1) := dk_46 (dk_at dksX4_askersOf_3 4 rfl rfl)
theorem dX4_askersOf_74 : decode cX4_askersOf 74 = .ok (.if_icmp .le 7, 3) := dk_164 0 7 (dk_at dksX4_askersOf_3 5 rfl rfl)
theorem dX4_askersOf_77 : decode cX4_askersOf 77 = .ok (.iconst 1, 1) := dk_4 (dk_at dksX4_askersOf_3 8 rfl rfl)
theorem dX4_askersOf_78 : decode cX4_askersOf 78 = .ok (.goto 4, 3) := dk_167 0 4 (dk_at dksX4_askersOf_3 9 rfl rfl)
theorem dX4_askersOf_81 : decode cX4_askersOf 81 = .ok (.iconst 0, 1) := dk_3 (dk_at dksX4_askersOf_3 12 rfl rfl)
theorem dX4_askersOf_82 : decode cX4_askersOf 82 = .ok (.iadd, 1) := dk_96 (dk_at dksX4_askersOf_3 13 rfl rfl)
theorem dX4_askersOf_83 : decode cX4_askersOf 83 = .ok (.istore_n 2, 1) := dk_61 (dk_at dksX4_askersOf_3 14 rfl rfl)
theorem dX4_askersOf_84 : decode cX4_askersOf 84 = .ok (.iinc 3 1, 3) := dk_132 3 1 (dk_at dksX4_askersOf_3 15 rfl rfl)
theorem dX4_askersOf_87 : decode cX4_askersOf 87 = .ok (.goto (-83), 3) := dk_167 255 173 (dk_at dksX4_askersOf_3 18 rfl rfl)
theorem dX4_askersOf_90 : decode cX4_askersOf 90 = .ok (.iload_n 2, 1) := dk_28 (dk_at dksX4_askersOf_3 21 rfl rfl)
theorem dX4_askersOf_91 : decode cX4_askersOf 91 = .ok (.ireturn, 1) := dk_172 (dk_at dksX4_askersOf_3 22 rfl rfl)
abbrev cX4_summedBy : ByteArray := prog_20_method_71_code
def yX4_summedBy : MethodName := ⟨RX4, "summedBy", "(I)J"⟩
def dkwX4_summedBy_3 : List UInt8 := [29, 4, 96, 46, 182, 1, 102, 173, 132, 2, 1, 167, 255, 177, 9, 173]
abbrev dktX4_summedBy_3 : List UInt8 := dkwX4_summedBy_3 ++ []
def dkwX4_summedBy_2 : List UInt8 := [29, 6, 96, 46, 182, 1, 102, 10, 148, 154, 0, 23, 42, 27, 42, 180, 0, 20, 29, 46, 42, 180, 0, 20]
abbrev dktX4_summedBy_2 : List UInt8 := dkwX4_summedBy_2 ++ dktX4_summedBy_3
def dkwX4_summedBy_1 : List UInt8 := [180, 0, 20, 29, 5, 96, 46, 155, 0, 29, 42, 27, 42, 180, 0, 20, 29, 5, 96, 46, 42, 180, 0, 20]
abbrev dktX4_summedBy_1 : List UInt8 := dkwX4_summedBy_1 ++ dktX4_summedBy_2
def dkwX4_summedBy_0 : List UInt8 := [3, 61, 28, 42, 180, 0, 23, 27, 46, 162, 0, 75, 16, 48, 27, 104, 7, 28, 104, 96, 62, 42]
abbrev dktX4_summedBy_0 : List UInt8 := dkwX4_summedBy_0 ++ dktX4_summedBy_1
theorem dksX4_summedBy_0 : cX4_summedBy.data.toList.drop 0 = dktX4_summedBy_0 := by decide +kernel
theorem dksX4_summedBy_1 : cX4_summedBy.data.toList.drop 22 = dktX4_summedBy_1 := dk_seg dksX4_summedBy_0 22 rfl rfl
theorem dksX4_summedBy_2 : cX4_summedBy.data.toList.drop 46 = dktX4_summedBy_2 := dk_seg dksX4_summedBy_1 24 rfl rfl
theorem dksX4_summedBy_3 : cX4_summedBy.data.toList.drop 70 = dktX4_summedBy_3 := dk_seg dksX4_summedBy_2 24 rfl rfl
theorem dX4_summedBy_0 : decode cX4_summedBy 0 = .ok (.iconst 0, 1) := dk_3 (dk_at dksX4_summedBy_0 0 rfl rfl)
theorem dX4_summedBy_1 : decode cX4_summedBy 1 = .ok (.istore_n 2, 1) := dk_61 (dk_at dksX4_summedBy_0 1 rfl rfl)
theorem dX4_summedBy_2 : decode cX4_summedBy 2 = .ok (.iload_n 2, 1) := dk_28 (dk_at dksX4_summedBy_0 2 rfl rfl)
theorem dX4_summedBy_3 : decode cX4_summedBy 3 = .ok (.aload_n 0, 1) := dk_42 (dk_at dksX4_summedBy_0 3 rfl rfl)
theorem dX4_summedBy_4 : decode cX4_summedBy 4 = .ok (.getfield 23, 3) := dk_180 0 23 (dk_at dksX4_summedBy_0 4 rfl rfl)
theorem dX4_summedBy_7 : decode cX4_summedBy 7 = .ok (.iload_n 1, 1) := dk_27 (dk_at dksX4_summedBy_0 7 rfl rfl)
theorem dX4_summedBy_8 : decode cX4_summedBy 8 = .ok (.iaload, 1) := dk_46 (dk_at dksX4_summedBy_0 8 rfl rfl)
theorem dX4_summedBy_9 : decode cX4_summedBy 9 = .ok (.if_icmp .ge 75, 3) := dk_162 0 75 (dk_at dksX4_summedBy_0 9 rfl rfl)
theorem dX4_summedBy_12 : decode cX4_summedBy 12 = .ok (.bipush 48, 2) := dk_16 48 (dk_at dksX4_summedBy_0 12 rfl rfl)
theorem dX4_summedBy_14 : decode cX4_summedBy 14 = .ok (.iload_n 1, 1) := dk_27 (dk_at dksX4_summedBy_0 14 rfl rfl)
theorem dX4_summedBy_15 : decode cX4_summedBy 15 = .ok (.imul, 1) := dk_104 (dk_at dksX4_summedBy_0 15 rfl rfl)
theorem dX4_summedBy_16 : decode cX4_summedBy 16 = .ok (.iconst 4, 1) := dk_7 (dk_at dksX4_summedBy_0 16 rfl rfl)
theorem dX4_summedBy_17 : decode cX4_summedBy 17 = .ok (.iload_n 2, 1) := dk_28 (dk_at dksX4_summedBy_0 17 rfl rfl)
theorem dX4_summedBy_18 : decode cX4_summedBy 18 = .ok (.imul, 1) := dk_104 (dk_at dksX4_summedBy_0 18 rfl rfl)
theorem dX4_summedBy_19 : decode cX4_summedBy 19 = .ok (.iadd, 1) := dk_96 (dk_at dksX4_summedBy_0 19 rfl rfl)
theorem dX4_summedBy_20 : decode cX4_summedBy 20 = .ok (.istore_n 3, 1) := dk_62 (dk_at dksX4_summedBy_0 20 rfl rfl)
theorem dX4_summedBy_21 : decode cX4_summedBy 21 = .ok (.aload_n 0, 1) := dk_42 (dk_at dksX4_summedBy_0 21 rfl rfl)
theorem dX4_summedBy_22 : decode cX4_summedBy 22 = .ok (.getfield 20, 3) := dk_180 0 20 (dk_at dksX4_summedBy_1 0 rfl rfl)
theorem dX4_summedBy_25 : decode cX4_summedBy 25 = .ok (.iload_n 3, 1) := dk_29 (dk_at dksX4_summedBy_1 3 rfl rfl)
theorem dX4_summedBy_26 : decode cX4_summedBy 26 = .ok (.iconst 2, 1) := dk_5 (dk_at dksX4_summedBy_1 4 rfl rfl)
theorem dX4_summedBy_27 : decode cX4_summedBy 27 = .ok (.iadd, 1) := dk_96 (dk_at dksX4_summedBy_1 5 rfl rfl)
theorem dX4_summedBy_28 : decode cX4_summedBy 28 = .ok (.iaload, 1) := dk_46 (dk_at dksX4_summedBy_1 6 rfl rfl)
theorem dX4_summedBy_29 : decode cX4_summedBy 29 = .ok (.ifCond .lt 29, 3) := dk_155 0 29 (dk_at dksX4_summedBy_1 7 rfl rfl)
theorem dX4_summedBy_32 : decode cX4_summedBy 32 = .ok (.aload_n 0, 1) := dk_42 (dk_at dksX4_summedBy_1 10 rfl rfl)
theorem dX4_summedBy_33 : decode cX4_summedBy 33 = .ok (.iload_n 1, 1) := dk_27 (dk_at dksX4_summedBy_1 11 rfl rfl)
theorem dX4_summedBy_34 : decode cX4_summedBy 34 = .ok (.aload_n 0, 1) := dk_42 (dk_at dksX4_summedBy_1 12 rfl rfl)
theorem dX4_summedBy_35 : decode cX4_summedBy 35 = .ok (.getfield 20, 3) := dk_180 0 20 (dk_at dksX4_summedBy_1 13 rfl rfl)
theorem dX4_summedBy_38 : decode cX4_summedBy 38 = .ok (.iload_n 3, 1) := dk_29 (dk_at dksX4_summedBy_1 16 rfl rfl)
theorem dX4_summedBy_39 : decode cX4_summedBy 39 = .ok (.iconst 2, 1) := dk_5 (dk_at dksX4_summedBy_1 17 rfl rfl)
theorem dX4_summedBy_40 : decode cX4_summedBy 40 = .ok (.iadd, 1) := dk_96 (dk_at dksX4_summedBy_1 18 rfl rfl)
theorem dX4_summedBy_41 : decode cX4_summedBy 41 = .ok (.iaload, 1) := dk_46 (dk_at dksX4_summedBy_1 19 rfl rfl)
theorem dX4_summedBy_42 : decode cX4_summedBy 42 = .ok (.aload_n 0, 1) := dk_42 (dk_at dksX4_summedBy_1 20 rfl rfl)
theorem dX4_summedBy_43 : decode cX4_summedBy 43 = .ok (.getfield 20, 3) := dk_180 0 20 (dk_at dksX4_summedBy_1 21 rfl rfl)
theorem dX4_summedBy_46 : decode cX4_summedBy 46 = .ok (.iload_n 3, 1) := dk_29 (dk_at dksX4_summedBy_2 0 rfl rfl)
theorem dX4_summedBy_47 : decode cX4_summedBy 47 = .ok (.iconst 3, 1) := dk_6 (dk_at dksX4_summedBy_2 1 rfl rfl)
theorem dX4_summedBy_48 : decode cX4_summedBy 48 = .ok (.iadd, 1) := dk_96 (dk_at dksX4_summedBy_2 2 rfl rfl)
theorem dX4_summedBy_49 : decode cX4_summedBy 49 = .ok (.iaload, 1) := dk_46 (dk_at dksX4_summedBy_2 3 rfl rfl)
theorem dX4_summedBy_50 : decode cX4_summedBy 50 = .ok (.invokevirtual 358, 3) := dk_182 1 102 (dk_at dksX4_summedBy_2 4 rfl rfl)
theorem dX4_summedBy_53 : decode cX4_summedBy 53 = .ok (.lconst 1, 1) := dk_10 (dk_at dksX4_summedBy_2 7 rfl rfl)
theorem dX4_summedBy_54 : decode cX4_summedBy 54 = .ok (.lcmp, 1) := dk_148 (dk_at dksX4_summedBy_2 8 rfl rfl)
theorem dX4_summedBy_55 : decode cX4_summedBy 55 = .ok (.ifCond .ne 23, 3) := dk_154 0 23 (dk_at dksX4_summedBy_2 9 rfl rfl)
theorem dX4_summedBy_58 : decode cX4_summedBy 58 = .ok (.aload_n 0, 1) := dk_42 (dk_at dksX4_summedBy_2 12 rfl rfl)
theorem dX4_summedBy_59 : decode cX4_summedBy 59 = .ok (.iload_n 1, 1) := dk_27 (dk_at dksX4_summedBy_2 13 rfl rfl)
theorem dX4_summedBy_60 : decode cX4_summedBy 60 = .ok (.aload_n 0, 1) := dk_42 (dk_at dksX4_summedBy_2 14 rfl rfl)
theorem dX4_summedBy_61 : decode cX4_summedBy 61 = .ok (.getfield 20, 3) := dk_180 0 20 (dk_at dksX4_summedBy_2 15 rfl rfl)
theorem dX4_summedBy_64 : decode cX4_summedBy 64 = .ok (.iload_n 3, 1) := dk_29 (dk_at dksX4_summedBy_2 18 rfl rfl)
theorem dX4_summedBy_65 : decode cX4_summedBy 65 = .ok (.iaload, 1) := dk_46 (dk_at dksX4_summedBy_2 19 rfl rfl)
theorem dX4_summedBy_66 : decode cX4_summedBy 66 = .ok (.aload_n 0, 1) := dk_42 (dk_at dksX4_summedBy_2 20 rfl rfl)
theorem dX4_summedBy_67 : decode cX4_summedBy 67 = .ok (.getfield 20, 3) := dk_180 0 20 (dk_at dksX4_summedBy_2 21 rfl rfl)
theorem dX4_summedBy_70 : decode cX4_summedBy 70 = .ok (.iload_n 3, 1) := dk_29 (dk_at dksX4_summedBy_3 0 rfl rfl)
theorem dX4_summedBy_71 : decode cX4_summedBy 71 = .ok (.iconst 1, 1) := dk_4 (dk_at dksX4_summedBy_3 1 rfl rfl)
theorem dX4_summedBy_72 : decode cX4_summedBy 72 = .ok (.iadd, 1) := dk_96 (dk_at dksX4_summedBy_3 2 rfl rfl)
theorem dX4_summedBy_73 : decode cX4_summedBy 73 = .ok (.iaload, 1) := dk_46 (dk_at dksX4_summedBy_3 3 rfl rfl)
theorem dX4_summedBy_74 : decode cX4_summedBy 74 = .ok (.invokevirtual 358, 3) := dk_182 1 102 (dk_at dksX4_summedBy_3 4 rfl rfl)
theorem dX4_summedBy_77 : decode cX4_summedBy 77 = .ok (.lreturn, 1) := dk_173 (dk_at dksX4_summedBy_3 7 rfl rfl)
theorem dX4_summedBy_78 : decode cX4_summedBy 78 = .ok (.iinc 2 1, 3) := dk_132 2 1 (dk_at dksX4_summedBy_3 8 rfl rfl)
theorem dX4_summedBy_81 : decode cX4_summedBy 81 = .ok (.goto (-79), 3) := dk_167 255 177 (dk_at dksX4_summedBy_3 11 rfl rfl)
theorem dX4_summedBy_84 : decode cX4_summedBy 84 = .ok (.lconst 0, 1) := dk_9 (dk_at dksX4_summedBy_3 14 rfl rfl)
theorem dX4_summedBy_85 : decode cX4_summedBy 85 = .ok (.lreturn, 1) := dk_173 (dk_at dksX4_summedBy_3 15 rfl rfl)
abbrev cX4_reckons : ByteArray := prog_20_method_47_code
def yX4_reckons : MethodName := ⟨RX4, "reckons", "(III)J"⟩
def dkwX4_reckons_5 : List UInt8 := [21, 5, 22, 9, 22, 7, 184, 1, 41, 182, 1, 33, 132, 4, 1, 167, 255, 132, 42, 182, 1, 37, 173]
abbrev dktX4_reckons_5 : List UInt8 := dkwX4_reckons_5 ++ []
def dkwX4_reckons_4 : List UInt8 := [182, 1, 37, 101, 182, 1, 33, 167, 0, 28, 42, 182, 1, 37, 55, 7, 42, 182, 1, 37, 55, 9, 42]
abbrev dktX4_reckons_4 : List UInt8 := dkwX4_reckons_4 ++ dktX4_reckons_5
def dkwX4_reckons_3 : List UInt8 := [42, 180, 0, 36, 21, 6, 47, 182, 1, 33, 167, 0, 48, 21, 5, 16, 11, 160, 0, 16, 42, 10, 42]
abbrev dktX4_reckons_3 : List UInt8 := dkwX4_reckons_3 ++ dktX4_reckons_4
def dkwX4_reckons_2 : List UInt8 := [54, 6, 21, 5, 154, 0, 13, 42, 21, 6, 133, 182, 1, 33, 167, 0, 68, 21, 5, 4, 160, 0, 17, 42]
abbrev dktX4_reckons_2 : List UInt8 := dkwX4_reckons_2 ++ dktX4_reckons_3
def dkwX4_reckons_1 : List UInt8 := [21, 4, 96, 46, 16, 15, 126, 54, 5, 42, 180, 0, 13, 17, 1, 144, 27, 104, 21, 4, 96, 46, 7, 122]
abbrev dktX4_reckons_1 : List UInt8 := dkwX4_reckons_1 ++ dktX4_reckons_2
def dkwX4_reckons_0 : List UInt8 := [42, 3, 181, 1, 30, 28, 54, 4, 21, 4, 29, 162, 0, 124, 42, 180, 0, 13, 17, 1, 144, 27, 104]
abbrev dktX4_reckons_0 : List UInt8 := dkwX4_reckons_0 ++ dktX4_reckons_1
theorem dksX4_reckons_0 : cX4_reckons.data.toList.drop 0 = dktX4_reckons_0 := by decide +kernel
theorem dksX4_reckons_1 : cX4_reckons.data.toList.drop 23 = dktX4_reckons_1 := dk_seg dksX4_reckons_0 23 rfl rfl
theorem dksX4_reckons_2 : cX4_reckons.data.toList.drop 47 = dktX4_reckons_2 := dk_seg dksX4_reckons_1 24 rfl rfl
theorem dksX4_reckons_3 : cX4_reckons.data.toList.drop 71 = dktX4_reckons_3 := dk_seg dksX4_reckons_2 24 rfl rfl
theorem dksX4_reckons_4 : cX4_reckons.data.toList.drop 94 = dktX4_reckons_4 := dk_seg dksX4_reckons_3 23 rfl rfl
theorem dksX4_reckons_5 : cX4_reckons.data.toList.drop 117 = dktX4_reckons_5 := dk_seg dksX4_reckons_4 23 rfl rfl
theorem dX4_reckons_0 : decode cX4_reckons 0 = .ok (.aload_n 0, 1) := dk_42 (dk_at dksX4_reckons_0 0 rfl rfl)
theorem dX4_reckons_1 : decode cX4_reckons 1 = .ok (.iconst 0, 1) := dk_3 (dk_at dksX4_reckons_0 1 rfl rfl)
theorem dX4_reckons_2 : decode cX4_reckons 2 = .ok (.putfield 286, 3) := dk_181 1 30 (dk_at dksX4_reckons_0 2 rfl rfl)
theorem dX4_reckons_5 : decode cX4_reckons 5 = .ok (.iload_n 2, 1) := dk_28 (dk_at dksX4_reckons_0 5 rfl rfl)
theorem dX4_reckons_6 : decode cX4_reckons 6 = .ok (.istore 4, 2) := dk_54 4 (dk_at dksX4_reckons_0 6 rfl rfl)
theorem dX4_reckons_8 : decode cX4_reckons 8 = .ok (.iload 4, 2) := dk_21 4 (dk_at dksX4_reckons_0 8 rfl rfl)
theorem dX4_reckons_10 : decode cX4_reckons 10 = .ok (.iload_n 3, 1) := dk_29 (dk_at dksX4_reckons_0 10 rfl rfl)
theorem dX4_reckons_11 : decode cX4_reckons 11 = .ok (.if_icmp .ge 124, 3) := dk_162 0 124 (dk_at dksX4_reckons_0 11 rfl rfl)
theorem dX4_reckons_14 : decode cX4_reckons 14 = .ok (.aload_n 0, 1) := dk_42 (dk_at dksX4_reckons_0 14 rfl rfl)
theorem dX4_reckons_15 : decode cX4_reckons 15 = .ok (.getfield 13, 3) := dk_180 0 13 (dk_at dksX4_reckons_0 15 rfl rfl)
theorem dX4_reckons_18 : decode cX4_reckons 18 = .ok (.sipush 400, 3) := dk_17 1 144 (dk_at dksX4_reckons_0 18 rfl rfl)
theorem dX4_reckons_21 : decode cX4_reckons 21 = .ok (.iload_n 1, 1) := dk_27 (dk_at dksX4_reckons_0 21 rfl rfl)
theorem dX4_reckons_22 : decode cX4_reckons 22 = .ok (.imul, 1) := dk_104 (dk_at dksX4_reckons_0 22 rfl rfl)
theorem dX4_reckons_23 : decode cX4_reckons 23 = .ok (.iload 4, 2) := dk_21 4 (dk_at dksX4_reckons_1 0 rfl rfl)
theorem dX4_reckons_25 : decode cX4_reckons 25 = .ok (.iadd, 1) := dk_96 (dk_at dksX4_reckons_1 2 rfl rfl)
theorem dX4_reckons_26 : decode cX4_reckons 26 = .ok (.iaload, 1) := dk_46 (dk_at dksX4_reckons_1 3 rfl rfl)
theorem dX4_reckons_27 : decode cX4_reckons 27 = .ok (.bipush 15, 2) := dk_16 15 (dk_at dksX4_reckons_1 4 rfl rfl)
theorem dX4_reckons_29 : decode cX4_reckons 29 = .ok (.iand, 1) := dk_126 (dk_at dksX4_reckons_1 6 rfl rfl)
theorem dX4_reckons_30 : decode cX4_reckons 30 = .ok (.istore 5, 2) := dk_54 5 (dk_at dksX4_reckons_1 7 rfl rfl)
theorem dX4_reckons_32 : decode cX4_reckons 32 = .ok (.aload_n 0, 1) := dk_42 (dk_at dksX4_reckons_1 9 rfl rfl)
theorem dX4_reckons_33 : decode cX4_reckons 33 = .ok (.getfield 13, 3) := dk_180 0 13 (dk_at dksX4_reckons_1 10 rfl rfl)
theorem dX4_reckons_36 : decode cX4_reckons 36 = .ok (.sipush 400, 3) := dk_17 1 144 (dk_at dksX4_reckons_1 13 rfl rfl)
theorem dX4_reckons_39 : decode cX4_reckons 39 = .ok (.iload_n 1, 1) := dk_27 (dk_at dksX4_reckons_1 16 rfl rfl)
theorem dX4_reckons_40 : decode cX4_reckons 40 = .ok (.imul, 1) := dk_104 (dk_at dksX4_reckons_1 17 rfl rfl)
theorem dX4_reckons_41 : decode cX4_reckons 41 = .ok (.iload 4, 2) := dk_21 4 (dk_at dksX4_reckons_1 18 rfl rfl)
theorem dX4_reckons_43 : decode cX4_reckons 43 = .ok (.iadd, 1) := dk_96 (dk_at dksX4_reckons_1 20 rfl rfl)
theorem dX4_reckons_44 : decode cX4_reckons 44 = .ok (.iaload, 1) := dk_46 (dk_at dksX4_reckons_1 21 rfl rfl)
theorem dX4_reckons_45 : decode cX4_reckons 45 = .ok (.iconst 4, 1) := dk_7 (dk_at dksX4_reckons_1 22 rfl rfl)
theorem dX4_reckons_46 : decode cX4_reckons 46 = .ok (.ishr, 1) := dk_122 (dk_at dksX4_reckons_1 23 rfl rfl)
theorem dX4_reckons_47 : decode cX4_reckons 47 = .ok (.istore 6, 2) := dk_54 6 (dk_at dksX4_reckons_2 0 rfl rfl)
theorem dX4_reckons_49 : decode cX4_reckons 49 = .ok (.iload 5, 2) := dk_21 5 (dk_at dksX4_reckons_2 2 rfl rfl)
theorem dX4_reckons_51 : decode cX4_reckons 51 = .ok (.ifCond .ne 13, 3) := dk_154 0 13 (dk_at dksX4_reckons_2 4 rfl rfl)
theorem dX4_reckons_54 : decode cX4_reckons 54 = .ok (.aload_n 0, 1) := dk_42 (dk_at dksX4_reckons_2 7 rfl rfl)
theorem dX4_reckons_55 : decode cX4_reckons 55 = .ok (.iload 6, 2) := dk_21 6 (dk_at dksX4_reckons_2 8 rfl rfl)
theorem dX4_reckons_57 : decode cX4_reckons 57 = .ok (.i2l, 1) := dk_133 (dk_at dksX4_reckons_2 10 rfl rfl)
theorem dX4_reckons_58 : decode cX4_reckons 58 = .ok (.invokevirtual 289, 3) := dk_182 1 33 (dk_at dksX4_reckons_2 11 rfl rfl)
theorem dX4_reckons_61 : decode cX4_reckons 61 = .ok (.goto 68, 3) := dk_167 0 68 (dk_at dksX4_reckons_2 14 rfl rfl)
theorem dX4_reckons_64 : decode cX4_reckons 64 = .ok (.iload 5, 2) := dk_21 5 (dk_at dksX4_reckons_2 17 rfl rfl)
theorem dX4_reckons_66 : decode cX4_reckons 66 = .ok (.iconst 1, 1) := dk_4 (dk_at dksX4_reckons_2 19 rfl rfl)
theorem dX4_reckons_67 : decode cX4_reckons 67 = .ok (.if_icmp .ne 17, 3) := dk_160 0 17 (dk_at dksX4_reckons_2 20 rfl rfl)
theorem dX4_reckons_70 : decode cX4_reckons 70 = .ok (.aload_n 0, 1) := dk_42 (dk_at dksX4_reckons_2 23 rfl rfl)
theorem dX4_reckons_71 : decode cX4_reckons 71 = .ok (.aload_n 0, 1) := dk_42 (dk_at dksX4_reckons_3 0 rfl rfl)
theorem dX4_reckons_72 : decode cX4_reckons 72 = .ok (.getfield 36, 3) := dk_180 0 36 (dk_at dksX4_reckons_3 1 rfl rfl)
theorem dX4_reckons_75 : decode cX4_reckons 75 = .ok (.iload 6, 2) := dk_21 6 (dk_at dksX4_reckons_3 4 rfl rfl)
theorem dX4_reckons_77 : decode cX4_reckons 77 = .ok (.laload, 1) := dk_47 (dk_at dksX4_reckons_3 6 rfl rfl)
theorem dX4_reckons_78 : decode cX4_reckons 78 = .ok (.invokevirtual 289, 3) := dk_182 1 33 (dk_at dksX4_reckons_3 7 rfl rfl)
theorem dX4_reckons_81 : decode cX4_reckons 81 = .ok (.goto 48, 3) := dk_167 0 48 (dk_at dksX4_reckons_3 10 rfl rfl)
theorem dX4_reckons_84 : decode cX4_reckons 84 = .ok (.iload 5, 2) := dk_21 5 (dk_at dksX4_reckons_3 13 rfl rfl)
theorem dX4_reckons_86 : decode cX4_reckons 86 = .ok (.bipush 11, 2) := dk_16 11 (dk_at dksX4_reckons_3 15 rfl rfl)
theorem dX4_reckons_88 : decode cX4_reckons 88 = .ok (.if_icmp .ne 16, 3) := dk_160 0 16 (dk_at dksX4_reckons_3 17 rfl rfl)
theorem dX4_reckons_91 : decode cX4_reckons 91 = .ok (.aload_n 0, 1) := dk_42 (dk_at dksX4_reckons_3 20 rfl rfl)
theorem dX4_reckons_92 : decode cX4_reckons 92 = .ok (.lconst 1, 1) := dk_10 (dk_at dksX4_reckons_3 21 rfl rfl)
theorem dX4_reckons_93 : decode cX4_reckons 93 = .ok (.aload_n 0, 1) := dk_42 (dk_at dksX4_reckons_3 22 rfl rfl)
theorem dX4_reckons_94 : decode cX4_reckons 94 = .ok (.invokevirtual 293, 3) := dk_182 1 37 (dk_at dksX4_reckons_4 0 rfl rfl)
theorem dX4_reckons_97 : decode cX4_reckons 97 = .ok (.lsub, 1) := dk_101 (dk_at dksX4_reckons_4 3 rfl rfl)
theorem dX4_reckons_98 : decode cX4_reckons 98 = .ok (.invokevirtual 289, 3) := dk_182 1 33 (dk_at dksX4_reckons_4 4 rfl rfl)
theorem dX4_reckons_101 : decode cX4_reckons 101 = .ok (.goto 28, 3) := dk_167 0 28 (dk_at dksX4_reckons_4 7 rfl rfl)
theorem dX4_reckons_104 : decode cX4_reckons 104 = .ok (.aload_n 0, 1) := dk_42 (dk_at dksX4_reckons_4 10 rfl rfl)
theorem dX4_reckons_105 : decode cX4_reckons 105 = .ok (.invokevirtual 293, 3) := dk_182 1 37 (dk_at dksX4_reckons_4 11 rfl rfl)
theorem dX4_reckons_108 : decode cX4_reckons 108 = .ok (.lstore 7, 2) := dk_55 7 (dk_at dksX4_reckons_4 14 rfl rfl)
theorem dX4_reckons_110 : decode cX4_reckons 110 = .ok (.aload_n 0, 1) := dk_42 (dk_at dksX4_reckons_4 16 rfl rfl)
theorem dX4_reckons_111 : decode cX4_reckons 111 = .ok (.invokevirtual 293, 3) := dk_182 1 37 (dk_at dksX4_reckons_4 17 rfl rfl)
theorem dX4_reckons_114 : decode cX4_reckons 114 = .ok (.lstore 9, 2) := dk_55 9 (dk_at dksX4_reckons_4 20 rfl rfl)
theorem dX4_reckons_116 : decode cX4_reckons 116 = .ok (.aload_n 0, 1) := dk_42 (dk_at dksX4_reckons_4 22 rfl rfl)
theorem dX4_reckons_117 : decode cX4_reckons 117 = .ok (.iload 5, 2) := dk_21 5 (dk_at dksX4_reckons_5 0 rfl rfl)
theorem dX4_reckons_119 : decode cX4_reckons 119 = .ok (.lload 9, 2) := dk_22 9 (dk_at dksX4_reckons_5 2 rfl rfl)
theorem dX4_reckons_121 : decode cX4_reckons 121 = .ok (.lload 7, 2) := dk_22 7 (dk_at dksX4_reckons_5 4 rfl rfl)
theorem dX4_reckons_123 : decode cX4_reckons 123 = .ok (.invokestatic 297, 3) := dk_184 1 41 (dk_at dksX4_reckons_5 6 rfl rfl)
theorem dX4_reckons_126 : decode cX4_reckons 126 = .ok (.invokevirtual 289, 3) := dk_182 1 33 (dk_at dksX4_reckons_5 9 rfl rfl)
theorem dX4_reckons_129 : decode cX4_reckons 129 = .ok (.iinc 4 1, 3) := dk_132 4 1 (dk_at dksX4_reckons_5 12 rfl rfl)
theorem dX4_reckons_132 : decode cX4_reckons 132 = .ok (.goto (-124), 3) := dk_167 255 132 (dk_at dksX4_reckons_5 15 rfl rfl)
theorem dX4_reckons_135 : decode cX4_reckons 135 = .ok (.aload_n 0, 1) := dk_42 (dk_at dksX4_reckons_5 18 rfl rfl)
theorem dX4_reckons_136 : decode cX4_reckons 136 = .ok (.invokevirtual 293, 3) := dk_182 1 37 (dk_at dksX4_reckons_5 19 rfl rfl)
theorem dX4_reckons_139 : decode cX4_reckons 139 = .ok (.lreturn, 1) := dk_173 (dk_at dksX4_reckons_5 22 rfl rfl)
abbrev cX4_push : ByteArray := prog_20_method_44_code
def yX4_push : MethodName := ⟨RX4, "push", "(J)V"⟩
def dkwX4_push_0 : List UInt8 := [42, 180, 0, 32, 42, 180, 1, 30, 31, 80, 42, 89, 180, 1, 30, 4, 96, 181, 1, 30, 177]
abbrev dktX4_push_0 : List UInt8 := dkwX4_push_0 ++ []
theorem dksX4_push_0 : cX4_push.data.toList.drop 0 = dktX4_push_0 := by decide +kernel
theorem dX4_push_0 : decode cX4_push 0 = .ok (.aload_n 0, 1) := dk_42 (dk_at dksX4_push_0 0 rfl rfl)
theorem dX4_push_1 : decode cX4_push 1 = .ok (.getfield 32, 3) := dk_180 0 32 (dk_at dksX4_push_0 1 rfl rfl)
theorem dX4_push_4 : decode cX4_push 4 = .ok (.aload_n 0, 1) := dk_42 (dk_at dksX4_push_0 4 rfl rfl)
theorem dX4_push_5 : decode cX4_push 5 = .ok (.getfield 286, 3) := dk_180 1 30 (dk_at dksX4_push_0 5 rfl rfl)
theorem dX4_push_8 : decode cX4_push 8 = .ok (.lload_n 1, 1) := dk_31 (dk_at dksX4_push_0 8 rfl rfl)
theorem dX4_push_9 : decode cX4_push 9 = .ok (.lastore, 1) := dk_80 (dk_at dksX4_push_0 9 rfl rfl)
theorem dX4_push_10 : decode cX4_push 10 = .ok (.aload_n 0, 1) := dk_42 (dk_at dksX4_push_0 10 rfl rfl)
theorem dX4_push_11 : decode cX4_push 11 = .ok (.dup, 1) := dk_89 (dk_at dksX4_push_0 11 rfl rfl)
theorem dX4_push_12 : decode cX4_push 12 = .ok (.getfield 286, 3) := dk_180 1 30 (dk_at dksX4_push_0 12 rfl rfl)
theorem dX4_push_15 : decode cX4_push 15 = .ok (.iconst 1, 1) := dk_4 (dk_at dksX4_push_0 15 rfl rfl)
theorem dX4_push_16 : decode cX4_push 16 = .ok (.iadd, 1) := dk_96 (dk_at dksX4_push_0 16 rfl rfl)
theorem dX4_push_17 : decode cX4_push 17 = .ok (.putfield 286, 3) := dk_181 1 30 (dk_at dksX4_push_0 17 rfl rfl)
theorem dX4_push_20 : decode cX4_push 20 = .ok (.return_, 1) := dk_177 (dk_at dksX4_push_0 20 rfl rfl)
abbrev cX4_pop : ByteArray := prog_20_method_45_code
def yX4_pop : MethodName := ⟨RX4, "pop", "()J"⟩
def dkwX4_pop_0 : List UInt8 := [42, 89, 180, 1, 30, 4, 100, 181, 1, 30, 42, 180, 0, 32, 42, 180, 1, 30, 47, 173]
abbrev dktX4_pop_0 : List UInt8 := dkwX4_pop_0 ++ []
theorem dksX4_pop_0 : cX4_pop.data.toList.drop 0 = dktX4_pop_0 := by decide +kernel
theorem dX4_pop_0 : decode cX4_pop 0 = .ok (.aload_n 0, 1) := dk_42 (dk_at dksX4_pop_0 0 rfl rfl)
theorem dX4_pop_1 : decode cX4_pop 1 = .ok (.dup, 1) := dk_89 (dk_at dksX4_pop_0 1 rfl rfl)
theorem dX4_pop_2 : decode cX4_pop 2 = .ok (.getfield 286, 3) := dk_180 1 30 (dk_at dksX4_pop_0 2 rfl rfl)
theorem dX4_pop_5 : decode cX4_pop 5 = .ok (.iconst 1, 1) := dk_4 (dk_at dksX4_pop_0 5 rfl rfl)
theorem dX4_pop_6 : decode cX4_pop 6 = .ok (.isub, 1) := dk_100 (dk_at dksX4_pop_0 6 rfl rfl)
theorem dX4_pop_7 : decode cX4_pop 7 = .ok (.putfield 286, 3) := dk_181 1 30 (dk_at dksX4_pop_0 7 rfl rfl)
theorem dX4_pop_10 : decode cX4_pop 10 = .ok (.aload_n 0, 1) := dk_42 (dk_at dksX4_pop_0 10 rfl rfl)
theorem dX4_pop_11 : decode cX4_pop 11 = .ok (.getfield 32, 3) := dk_180 0 32 (dk_at dksX4_pop_0 11 rfl rfl)
theorem dX4_pop_14 : decode cX4_pop 14 = .ok (.aload_n 0, 1) := dk_42 (dk_at dksX4_pop_0 14 rfl rfl)
theorem dX4_pop_15 : decode cX4_pop 15 = .ok (.getfield 286, 3) := dk_180 1 30 (dk_at dksX4_pop_0 15 rfl rfl)
theorem dX4_pop_18 : decode cX4_pop 18 = .ok (.laload, 1) := dk_47 (dk_at dksX4_pop_0 18 rfl rfl)
theorem dX4_pop_19 : decode cX4_pop 19 = .ok (.lreturn, 1) := dk_173 (dk_at dksX4_pop_0 19 rfl rfl)
abbrev cX4_one : ByteArray := prog_20_method_46_code
def yX4_one : MethodName := ⟨RX4, "one", "(IJJ)J"⟩
def dkwX4_one_6 : List UInt8 := [167, 0, 4, 9, 173, 31, 33, 127, 173, 31, 33, 129, 173]
abbrev dktX4_one_6 : List UInt8 := dkwX4_one_6 ++ []
def dkwX4_one_5 : List UInt8 := [167, 0, 4, 9, 173, 31, 33, 148, 155, 0, 7, 10, 167, 0, 4, 9, 173, 31, 33, 148, 158, 0, 7, 10]
abbrev dktX4_one_5 : List UInt8 := dkwX4_one_5 ++ dktX4_one_6
def dkwX4_one_4 : List UInt8 := [167, 0, 4, 9, 173, 31, 33, 148, 157, 0, 7, 10, 167, 0, 4, 9, 173, 31, 33, 148, 154, 0, 7, 10]
abbrev dktX4_one_4 : List UInt8 := dkwX4_one_4 ++ dktX4_one_5
def dkwX4_one_3 : List UInt8 := [109, 173, 33, 9, 148, 154, 0, 7, 9, 167, 0, 6, 31, 33, 113, 173, 31, 33, 148, 156, 0, 7, 10]
abbrev dktX4_one_3 : List UInt8 := dkwX4_one_3 ++ dktX4_one_4
def dkwX4_one_2 : List UInt8 := [31, 33, 97, 173, 31, 33, 101, 173, 31, 33, 105, 173, 33, 9, 148, 154, 0, 7, 9, 167, 0, 6, 31, 33]
abbrev dktX4_one_2 : List UInt8 := dkwX4_one_2 ++ dktX4_one_3
def dkwX4_one_1 : List UInt8 := [170, 0, 0, 0, 0, 0, 171, 0, 0, 0, 2, 0, 0, 0, 14, 0, 0, 0, 67, 0, 0, 0, 71, 0, 0, 0, 75, 0, 0, 0, 79, 0, 0, 0, 107, 0, 0, 0, 119, 0, 0, 0, 131, 0, 0, 0, 143, 0, 0, 0, 155, 0, 0, 0, 171, 0, 0, 0, 167, 0, 0, 0, 171, 0, 0, 0, 93]
abbrev dktX4_one_1 : List UInt8 := dkwX4_one_1 ++ dktX4_one_2
def dkwX4_one_0 : List UInt8 := [26]
abbrev dktX4_one_0 : List UInt8 := dkwX4_one_0 ++ dktX4_one_1
theorem dksX4_one_0 : cX4_one.data.toList.drop 0 = dktX4_one_0 := by decide +kernel
theorem dksX4_one_1 : cX4_one.data.toList.drop 1 = dktX4_one_1 := dk_seg dksX4_one_0 1 rfl rfl
theorem dksX4_one_2 : cX4_one.data.toList.drop 68 = dktX4_one_2 := dk_seg dksX4_one_1 67 rfl rfl
theorem dksX4_one_3 : cX4_one.data.toList.drop 92 = dktX4_one_3 := dk_seg dksX4_one_2 24 rfl rfl
theorem dksX4_one_4 : cX4_one.data.toList.drop 115 = dktX4_one_4 := dk_seg dksX4_one_3 23 rfl rfl
theorem dksX4_one_5 : cX4_one.data.toList.drop 139 = dktX4_one_5 := dk_seg dksX4_one_4 24 rfl rfl
theorem dksX4_one_6 : cX4_one.data.toList.drop 163 = dktX4_one_6 := dk_seg dksX4_one_5 24 rfl rfl
theorem dX4_one_0 : decode cX4_one 0 = .ok (.iload_n 0, 1) := dk_26 (dk_at dksX4_one_0 0 rfl rfl)
theorem dX4_one_1 : decode cX4_one 1 = .ok (.tableswitch 171 2 14 #[67, 71, 75, 79, 107, 119, 131, 143, 155, 171, 167, 171, 93], 67) := by decide +kernel
theorem dX4_one_68 : decode cX4_one 68 = .ok (.lload_n 1, 1) := dk_31 (dk_at dksX4_one_2 0 rfl rfl)
theorem dX4_one_69 : decode cX4_one 69 = .ok (.lload_n 3, 1) := dk_33 (dk_at dksX4_one_2 1 rfl rfl)
theorem dX4_one_70 : decode cX4_one 70 = .ok (.ladd, 1) := dk_97 (dk_at dksX4_one_2 2 rfl rfl)
theorem dX4_one_71 : decode cX4_one 71 = .ok (.lreturn, 1) := dk_173 (dk_at dksX4_one_2 3 rfl rfl)
theorem dX4_one_72 : decode cX4_one 72 = .ok (.lload_n 1, 1) := dk_31 (dk_at dksX4_one_2 4 rfl rfl)
theorem dX4_one_73 : decode cX4_one 73 = .ok (.lload_n 3, 1) := dk_33 (dk_at dksX4_one_2 5 rfl rfl)
theorem dX4_one_74 : decode cX4_one 74 = .ok (.lsub, 1) := dk_101 (dk_at dksX4_one_2 6 rfl rfl)
theorem dX4_one_75 : decode cX4_one 75 = .ok (.lreturn, 1) := dk_173 (dk_at dksX4_one_2 7 rfl rfl)
theorem dX4_one_76 : decode cX4_one 76 = .ok (.lload_n 1, 1) := dk_31 (dk_at dksX4_one_2 8 rfl rfl)
theorem dX4_one_77 : decode cX4_one 77 = .ok (.lload_n 3, 1) := dk_33 (dk_at dksX4_one_2 9 rfl rfl)
theorem dX4_one_78 : decode cX4_one 78 = .ok (.lmul, 1) := dk_105 (dk_at dksX4_one_2 10 rfl rfl)
theorem dX4_one_79 : decode cX4_one 79 = .ok (.lreturn, 1) := dk_173 (dk_at dksX4_one_2 11 rfl rfl)
theorem dX4_one_80 : decode cX4_one 80 = .ok (.lload_n 3, 1) := dk_33 (dk_at dksX4_one_2 12 rfl rfl)
theorem dX4_one_81 : decode cX4_one 81 = .ok (.lconst 0, 1) := dk_9 (dk_at dksX4_one_2 13 rfl rfl)
theorem dX4_one_82 : decode cX4_one 82 = .ok (.lcmp, 1) := dk_148 (dk_at dksX4_one_2 14 rfl rfl)
theorem dX4_one_83 : decode cX4_one 83 = .ok (.ifCond .ne 7, 3) := dk_154 0 7 (dk_at dksX4_one_2 15 rfl rfl)
theorem dX4_one_86 : decode cX4_one 86 = .ok (.lconst 0, 1) := dk_9 (dk_at dksX4_one_2 18 rfl rfl)
theorem dX4_one_87 : decode cX4_one 87 = .ok (.goto 6, 3) := dk_167 0 6 (dk_at dksX4_one_2 19 rfl rfl)
theorem dX4_one_90 : decode cX4_one 90 = .ok (.lload_n 1, 1) := dk_31 (dk_at dksX4_one_2 22 rfl rfl)
theorem dX4_one_91 : decode cX4_one 91 = .ok (.lload_n 3, 1) := dk_33 (dk_at dksX4_one_2 23 rfl rfl)
theorem dX4_one_92 : decode cX4_one 92 = .ok (.ldiv, 1) := dk_109 (dk_at dksX4_one_3 0 rfl rfl)
theorem dX4_one_93 : decode cX4_one 93 = .ok (.lreturn, 1) := dk_173 (dk_at dksX4_one_3 1 rfl rfl)
theorem dX4_one_94 : decode cX4_one 94 = .ok (.lload_n 3, 1) := dk_33 (dk_at dksX4_one_3 2 rfl rfl)
theorem dX4_one_95 : decode cX4_one 95 = .ok (.lconst 0, 1) := dk_9 (dk_at dksX4_one_3 3 rfl rfl)
theorem dX4_one_96 : decode cX4_one 96 = .ok (.lcmp, 1) := dk_148 (dk_at dksX4_one_3 4 rfl rfl)
theorem dX4_one_97 : decode cX4_one 97 = .ok (.ifCond .ne 7, 3) := dk_154 0 7 (dk_at dksX4_one_3 5 rfl rfl)
theorem dX4_one_100 : decode cX4_one 100 = .ok (.lconst 0, 1) := dk_9 (dk_at dksX4_one_3 8 rfl rfl)
theorem dX4_one_101 : decode cX4_one 101 = .ok (.goto 6, 3) := dk_167 0 6 (dk_at dksX4_one_3 9 rfl rfl)
theorem dX4_one_104 : decode cX4_one 104 = .ok (.lload_n 1, 1) := dk_31 (dk_at dksX4_one_3 12 rfl rfl)
theorem dX4_one_105 : decode cX4_one 105 = .ok (.lload_n 3, 1) := dk_33 (dk_at dksX4_one_3 13 rfl rfl)
theorem dX4_one_106 : decode cX4_one 106 = .ok (.lrem, 1) := dk_113 (dk_at dksX4_one_3 14 rfl rfl)
theorem dX4_one_107 : decode cX4_one 107 = .ok (.lreturn, 1) := dk_173 (dk_at dksX4_one_3 15 rfl rfl)
theorem dX4_one_108 : decode cX4_one 108 = .ok (.lload_n 1, 1) := dk_31 (dk_at dksX4_one_3 16 rfl rfl)
theorem dX4_one_109 : decode cX4_one 109 = .ok (.lload_n 3, 1) := dk_33 (dk_at dksX4_one_3 17 rfl rfl)
theorem dX4_one_110 : decode cX4_one 110 = .ok (.lcmp, 1) := dk_148 (dk_at dksX4_one_3 18 rfl rfl)
theorem dX4_one_111 : decode cX4_one 111 = .ok (.ifCond .ge 7, 3) := dk_156 0 7 (dk_at dksX4_one_3 19 rfl rfl)
theorem dX4_one_114 : decode cX4_one 114 = .ok (.lconst 1, 1) := dk_10 (dk_at dksX4_one_3 22 rfl rfl)
theorem dX4_one_115 : decode cX4_one 115 = .ok (.goto 4, 3) := dk_167 0 4 (dk_at dksX4_one_4 0 rfl rfl)
theorem dX4_one_118 : decode cX4_one 118 = .ok (.lconst 0, 1) := dk_9 (dk_at dksX4_one_4 3 rfl rfl)
theorem dX4_one_119 : decode cX4_one 119 = .ok (.lreturn, 1) := dk_173 (dk_at dksX4_one_4 4 rfl rfl)
theorem dX4_one_120 : decode cX4_one 120 = .ok (.lload_n 1, 1) := dk_31 (dk_at dksX4_one_4 5 rfl rfl)
theorem dX4_one_121 : decode cX4_one 121 = .ok (.lload_n 3, 1) := dk_33 (dk_at dksX4_one_4 6 rfl rfl)
theorem dX4_one_122 : decode cX4_one 122 = .ok (.lcmp, 1) := dk_148 (dk_at dksX4_one_4 7 rfl rfl)
theorem dX4_one_123 : decode cX4_one 123 = .ok (.ifCond .gt 7, 3) := dk_157 0 7 (dk_at dksX4_one_4 8 rfl rfl)
theorem dX4_one_126 : decode cX4_one 126 = .ok (.lconst 1, 1) := dk_10 (dk_at dksX4_one_4 11 rfl rfl)
theorem dX4_one_127 : decode cX4_one 127 = .ok (.goto 4, 3) := dk_167 0 4 (dk_at dksX4_one_4 12 rfl rfl)
theorem dX4_one_130 : decode cX4_one 130 = .ok (.lconst 0, 1) := dk_9 (dk_at dksX4_one_4 15 rfl rfl)
theorem dX4_one_131 : decode cX4_one 131 = .ok (.lreturn, 1) := dk_173 (dk_at dksX4_one_4 16 rfl rfl)
theorem dX4_one_132 : decode cX4_one 132 = .ok (.lload_n 1, 1) := dk_31 (dk_at dksX4_one_4 17 rfl rfl)
theorem dX4_one_133 : decode cX4_one 133 = .ok (.lload_n 3, 1) := dk_33 (dk_at dksX4_one_4 18 rfl rfl)
theorem dX4_one_134 : decode cX4_one 134 = .ok (.lcmp, 1) := dk_148 (dk_at dksX4_one_4 19 rfl rfl)
theorem dX4_one_135 : decode cX4_one 135 = .ok (.ifCond .ne 7, 3) := dk_154 0 7 (dk_at dksX4_one_4 20 rfl rfl)
theorem dX4_one_138 : decode cX4_one 138 = .ok (.lconst 1, 1) := dk_10 (dk_at dksX4_one_4 23 rfl rfl)
theorem dX4_one_139 : decode cX4_one 139 = .ok (.goto 4, 3) := dk_167 0 4 (dk_at dksX4_one_5 0 rfl rfl)
theorem dX4_one_142 : decode cX4_one 142 = .ok (.lconst 0, 1) := dk_9 (dk_at dksX4_one_5 3 rfl rfl)
theorem dX4_one_143 : decode cX4_one 143 = .ok (.lreturn, 1) := dk_173 (dk_at dksX4_one_5 4 rfl rfl)
theorem dX4_one_144 : decode cX4_one 144 = .ok (.lload_n 1, 1) := dk_31 (dk_at dksX4_one_5 5 rfl rfl)
theorem dX4_one_145 : decode cX4_one 145 = .ok (.lload_n 3, 1) := dk_33 (dk_at dksX4_one_5 6 rfl rfl)
theorem dX4_one_146 : decode cX4_one 146 = .ok (.lcmp, 1) := dk_148 (dk_at dksX4_one_5 7 rfl rfl)
theorem dX4_one_147 : decode cX4_one 147 = .ok (.ifCond .lt 7, 3) := dk_155 0 7 (dk_at dksX4_one_5 8 rfl rfl)
theorem dX4_one_150 : decode cX4_one 150 = .ok (.lconst 1, 1) := dk_10 (dk_at dksX4_one_5 11 rfl rfl)
theorem dX4_one_151 : decode cX4_one 151 = .ok (.goto 4, 3) := dk_167 0 4 (dk_at dksX4_one_5 12 rfl rfl)
theorem dX4_one_154 : decode cX4_one 154 = .ok (.lconst 0, 1) := dk_9 (dk_at dksX4_one_5 15 rfl rfl)
theorem dX4_one_155 : decode cX4_one 155 = .ok (.lreturn, 1) := dk_173 (dk_at dksX4_one_5 16 rfl rfl)
theorem dX4_one_156 : decode cX4_one 156 = .ok (.lload_n 1, 1) := dk_31 (dk_at dksX4_one_5 17 rfl rfl)
theorem dX4_one_157 : decode cX4_one 157 = .ok (.lload_n 3, 1) := dk_33 (dk_at dksX4_one_5 18 rfl rfl)
theorem dX4_one_158 : decode cX4_one 158 = .ok (.lcmp, 1) := dk_148 (dk_at dksX4_one_5 19 rfl rfl)
theorem dX4_one_159 : decode cX4_one 159 = .ok (.ifCond .le 7, 3) := dk_158 0 7 (dk_at dksX4_one_5 20 rfl rfl)
theorem dX4_one_162 : decode cX4_one 162 = .ok (.lconst 1, 1) := dk_10 (dk_at dksX4_one_5 23 rfl rfl)
theorem dX4_one_163 : decode cX4_one 163 = .ok (.goto 4, 3) := dk_167 0 4 (dk_at dksX4_one_6 0 rfl rfl)
theorem dX4_one_166 : decode cX4_one 166 = .ok (.lconst 0, 1) := dk_9 (dk_at dksX4_one_6 3 rfl rfl)
theorem dX4_one_167 : decode cX4_one 167 = .ok (.lreturn, 1) := dk_173 (dk_at dksX4_one_6 4 rfl rfl)
theorem dX4_one_168 : decode cX4_one 168 = .ok (.lload_n 1, 1) := dk_31 (dk_at dksX4_one_6 5 rfl rfl)
theorem dX4_one_169 : decode cX4_one 169 = .ok (.lload_n 3, 1) := dk_33 (dk_at dksX4_one_6 6 rfl rfl)
theorem dX4_one_170 : decode cX4_one 170 = .ok (.land, 1) := dk_127 (dk_at dksX4_one_6 7 rfl rfl)
theorem dX4_one_171 : decode cX4_one 171 = .ok (.lreturn, 1) := dk_173 (dk_at dksX4_one_6 8 rfl rfl)
theorem dX4_one_172 : decode cX4_one 172 = .ok (.lload_n 1, 1) := dk_31 (dk_at dksX4_one_6 9 rfl rfl)
theorem dX4_one_173 : decode cX4_one 173 = .ok (.lload_n 3, 1) := dk_33 (dk_at dksX4_one_6 10 rfl rfl)
theorem dX4_one_174 : decode cX4_one 174 = .ok (.lor, 1) := dk_129 (dk_at dksX4_one_6 11 rfl rfl)
theorem dX4_one_175 : decode cX4_one 175 = .ok (.lreturn, 1) := dk_173 (dk_at dksX4_one_6 12 rfl rfl)
abbrev cX4_firstOut : ByteArray := prog_20_method_72_code
def yX4_firstOut : MethodName := ⟨RX4, "firstOut", "(I)I"⟩
def dkwX4_firstOut_1 : List UInt8 := [182, 1, 45, 27, 160, 0, 5, 28, 172, 132, 2, 1, 167, 255, 224, 2, 172]
abbrev dktX4_firstOut_1 : List UInt8 := dkwX4_firstOut_1 ++ []
def dkwX4_firstOut_0 : List UInt8 := [3, 61, 28, 42, 180, 0, 39, 4, 46, 162, 0, 28, 42, 28, 182, 1, 54, 153, 0, 14, 42, 28]
abbrev dktX4_firstOut_0 : List UInt8 := dkwX4_firstOut_0 ++ dktX4_firstOut_1
theorem dksX4_firstOut_0 : cX4_firstOut.data.toList.drop 0 = dktX4_firstOut_0 := by decide +kernel
theorem dksX4_firstOut_1 : cX4_firstOut.data.toList.drop 22 = dktX4_firstOut_1 := dk_seg dksX4_firstOut_0 22 rfl rfl
theorem dX4_firstOut_0 : decode cX4_firstOut 0 = .ok (.iconst 0, 1) := dk_3 (dk_at dksX4_firstOut_0 0 rfl rfl)
theorem dX4_firstOut_1 : decode cX4_firstOut 1 = .ok (.istore_n 2, 1) := dk_61 (dk_at dksX4_firstOut_0 1 rfl rfl)
theorem dX4_firstOut_2 : decode cX4_firstOut 2 = .ok (.iload_n 2, 1) := dk_28 (dk_at dksX4_firstOut_0 2 rfl rfl)
theorem dX4_firstOut_3 : decode cX4_firstOut 3 = .ok (.aload_n 0, 1) := dk_42 (dk_at dksX4_firstOut_0 3 rfl rfl)
theorem dX4_firstOut_4 : decode cX4_firstOut 4 = .ok (.getfield 39, 3) := dk_180 0 39 (dk_at dksX4_firstOut_0 4 rfl rfl)
theorem dX4_firstOut_7 : decode cX4_firstOut 7 = .ok (.iconst 1, 1) := dk_4 (dk_at dksX4_firstOut_0 7 rfl rfl)
theorem dX4_firstOut_8 : decode cX4_firstOut 8 = .ok (.iaload, 1) := dk_46 (dk_at dksX4_firstOut_0 8 rfl rfl)
theorem dX4_firstOut_9 : decode cX4_firstOut 9 = .ok (.if_icmp .ge 28, 3) := dk_162 0 28 (dk_at dksX4_firstOut_0 9 rfl rfl)
theorem dX4_firstOut_12 : decode cX4_firstOut 12 = .ok (.aload_n 0, 1) := dk_42 (dk_at dksX4_firstOut_0 12 rfl rfl)
theorem dX4_firstOut_13 : decode cX4_firstOut 13 = .ok (.iload_n 2, 1) := dk_28 (dk_at dksX4_firstOut_0 13 rfl rfl)
theorem dX4_firstOut_14 : decode cX4_firstOut 14 = .ok (.invokevirtual 310, 3) := dk_182 1 54 (dk_at dksX4_firstOut_0 14 rfl rfl)
theorem dX4_firstOut_17 : decode cX4_firstOut 17 = .ok (.ifCond .eq 14, 3) := dk_153 0 14 (dk_at dksX4_firstOut_0 17 rfl rfl)
theorem dX4_firstOut_20 : decode cX4_firstOut 20 = .ok (.aload_n 0, 1) := dk_42 (dk_at dksX4_firstOut_0 20 rfl rfl)
theorem dX4_firstOut_21 : decode cX4_firstOut 21 = .ok (.iload_n 2, 1) := dk_28 (dk_at dksX4_firstOut_0 21 rfl rfl)
theorem dX4_firstOut_22 : decode cX4_firstOut 22 = .ok (.invokevirtual 301, 3) := dk_182 1 45 (dk_at dksX4_firstOut_1 0 rfl rfl)
theorem dX4_firstOut_25 : decode cX4_firstOut 25 = .ok (.iload_n 1, 1) := dk_27 (dk_at dksX4_firstOut_1 3 rfl rfl)
theorem dX4_firstOut_26 : decode cX4_firstOut 26 = .ok (.if_icmp .ne 5, 3) := dk_160 0 5 (dk_at dksX4_firstOut_1 4 rfl rfl)
theorem dX4_firstOut_29 : decode cX4_firstOut 29 = .ok (.iload_n 2, 1) := dk_28 (dk_at dksX4_firstOut_1 7 rfl rfl)
theorem dX4_firstOut_30 : decode cX4_firstOut 30 = .ok (.ireturn, 1) := dk_172 (dk_at dksX4_firstOut_1 8 rfl rfl)
theorem dX4_firstOut_31 : decode cX4_firstOut 31 = .ok (.iinc 2 1, 3) := dk_132 2 1 (dk_at dksX4_firstOut_1 9 rfl rfl)
theorem dX4_firstOut_34 : decode cX4_firstOut 34 = .ok (.goto (-32), 3) := dk_167 255 224 (dk_at dksX4_firstOut_1 12 rfl rfl)
theorem dX4_firstOut_37 : decode cX4_firstOut 37 = .ok (.iconst (-1), 1) := dk_2 (dk_at dksX4_firstOut_1 15 rfl rfl)
theorem dX4_firstOut_38 : decode cX4_firstOut 38 = .ok (.ireturn, 1) := dk_172 (dk_at dksX4_firstOut_1 16 rfl rfl)
abbrev cX4_doorBetween : ByteArray := prog_20_method_61_code
def yX4_doorBetween : MethodName := ⟨RX4, "doorBetween", "(II)I"⟩
def dkwX4_doorBetween_2 : List UInt8 := [160, 0, 5, 29, 172, 132, 3, 1, 167, 255, 205, 2, 172]
abbrev dktX4_doorBetween_2 : List UInt8 := dkwX4_doorBetween_2 ++ []
def dkwX4_doorBetween_1 : List UInt8 := [182, 1, 48, 28, 159, 0, 21, 42, 29, 182, 1, 45, 28, 160, 0, 14, 42, 29, 182, 1, 48, 27]
abbrev dktX4_doorBetween_1 : List UInt8 := dkwX4_doorBetween_1 ++ dktX4_doorBetween_2
def dkwX4_doorBetween_0 : List UInt8 := [3, 62, 29, 42, 180, 0, 39, 4, 46, 162, 0, 47, 42, 29, 182, 1, 45, 27, 160, 0, 12, 42, 29]
abbrev dktX4_doorBetween_0 : List UInt8 := dkwX4_doorBetween_0 ++ dktX4_doorBetween_1
theorem dksX4_doorBetween_0 : cX4_doorBetween.data.toList.drop 0 = dktX4_doorBetween_0 := by decide +kernel
theorem dksX4_doorBetween_1 : cX4_doorBetween.data.toList.drop 23 = dktX4_doorBetween_1 := dk_seg dksX4_doorBetween_0 23 rfl rfl
theorem dksX4_doorBetween_2 : cX4_doorBetween.data.toList.drop 45 = dktX4_doorBetween_2 := dk_seg dksX4_doorBetween_1 22 rfl rfl
theorem dX4_doorBetween_0 : decode cX4_doorBetween 0 = .ok (.iconst 0, 1) := dk_3 (dk_at dksX4_doorBetween_0 0 rfl rfl)
theorem dX4_doorBetween_1 : decode cX4_doorBetween 1 = .ok (.istore_n 3, 1) := dk_62 (dk_at dksX4_doorBetween_0 1 rfl rfl)
theorem dX4_doorBetween_2 : decode cX4_doorBetween 2 = .ok (.iload_n 3, 1) := dk_29 (dk_at dksX4_doorBetween_0 2 rfl rfl)
theorem dX4_doorBetween_3 : decode cX4_doorBetween 3 = .ok (.aload_n 0, 1) := dk_42 (dk_at dksX4_doorBetween_0 3 rfl rfl)
theorem dX4_doorBetween_4 : decode cX4_doorBetween 4 = .ok (.getfield 39, 3) := dk_180 0 39 (dk_at dksX4_doorBetween_0 4 rfl rfl)
theorem dX4_doorBetween_7 : decode cX4_doorBetween 7 = .ok (.iconst 1, 1) := dk_4 (dk_at dksX4_doorBetween_0 7 rfl rfl)
theorem dX4_doorBetween_8 : decode cX4_doorBetween 8 = .ok (.iaload, 1) := dk_46 (dk_at dksX4_doorBetween_0 8 rfl rfl)
theorem dX4_doorBetween_9 : decode cX4_doorBetween 9 = .ok (.if_icmp .ge 47, 3) := dk_162 0 47 (dk_at dksX4_doorBetween_0 9 rfl rfl)
theorem dX4_doorBetween_12 : decode cX4_doorBetween 12 = .ok (.aload_n 0, 1) := dk_42 (dk_at dksX4_doorBetween_0 12 rfl rfl)
theorem dX4_doorBetween_13 : decode cX4_doorBetween 13 = .ok (.iload_n 3, 1) := dk_29 (dk_at dksX4_doorBetween_0 13 rfl rfl)
theorem dX4_doorBetween_14 : decode cX4_doorBetween 14 = .ok (.invokevirtual 301, 3) := dk_182 1 45 (dk_at dksX4_doorBetween_0 14 rfl rfl)
theorem dX4_doorBetween_17 : decode cX4_doorBetween 17 = .ok (.iload_n 1, 1) := dk_27 (dk_at dksX4_doorBetween_0 17 rfl rfl)
theorem dX4_doorBetween_18 : decode cX4_doorBetween 18 = .ok (.if_icmp .ne 12, 3) := dk_160 0 12 (dk_at dksX4_doorBetween_0 18 rfl rfl)
theorem dX4_doorBetween_21 : decode cX4_doorBetween 21 = .ok (.aload_n 0, 1) := dk_42 (dk_at dksX4_doorBetween_0 21 rfl rfl)
theorem dX4_doorBetween_22 : decode cX4_doorBetween 22 = .ok (.iload_n 3, 1) := dk_29 (dk_at dksX4_doorBetween_0 22 rfl rfl)
theorem dX4_doorBetween_23 : decode cX4_doorBetween 23 = .ok (.invokevirtual 304, 3) := dk_182 1 48 (dk_at dksX4_doorBetween_1 0 rfl rfl)
theorem dX4_doorBetween_26 : decode cX4_doorBetween 26 = .ok (.iload_n 2, 1) := dk_28 (dk_at dksX4_doorBetween_1 3 rfl rfl)
theorem dX4_doorBetween_27 : decode cX4_doorBetween 27 = .ok (.if_icmp .eq 21, 3) := dk_159 0 21 (dk_at dksX4_doorBetween_1 4 rfl rfl)
theorem dX4_doorBetween_30 : decode cX4_doorBetween 30 = .ok (.aload_n 0, 1) := dk_42 (dk_at dksX4_doorBetween_1 7 rfl rfl)
theorem dX4_doorBetween_31 : decode cX4_doorBetween 31 = .ok (.iload_n 3, 1) := dk_29 (dk_at dksX4_doorBetween_1 8 rfl rfl)
theorem dX4_doorBetween_32 : decode cX4_doorBetween 32 = .ok (.invokevirtual 301, 3) := dk_182 1 45 (dk_at dksX4_doorBetween_1 9 rfl rfl)
theorem dX4_doorBetween_35 : decode cX4_doorBetween 35 = .ok (.iload_n 2, 1) := dk_28 (dk_at dksX4_doorBetween_1 12 rfl rfl)
theorem dX4_doorBetween_36 : decode cX4_doorBetween 36 = .ok (.if_icmp .ne 14, 3) := dk_160 0 14 (dk_at dksX4_doorBetween_1 13 rfl rfl)
theorem dX4_doorBetween_39 : decode cX4_doorBetween 39 = .ok (.aload_n 0, 1) := dk_42 (dk_at dksX4_doorBetween_1 16 rfl rfl)
theorem dX4_doorBetween_40 : decode cX4_doorBetween 40 = .ok (.iload_n 3, 1) := dk_29 (dk_at dksX4_doorBetween_1 17 rfl rfl)
theorem dX4_doorBetween_41 : decode cX4_doorBetween 41 = .ok (.invokevirtual 304, 3) := dk_182 1 48 (dk_at dksX4_doorBetween_1 18 rfl rfl)
theorem dX4_doorBetween_44 : decode cX4_doorBetween 44 = .ok (.iload_n 1, 1) := dk_27 (dk_at dksX4_doorBetween_1 21 rfl rfl)
theorem dX4_doorBetween_45 : decode cX4_doorBetween 45 = .ok (.if_icmp .ne 5, 3) := dk_160 0 5 (dk_at dksX4_doorBetween_2 0 rfl rfl)
theorem dX4_doorBetween_48 : decode cX4_doorBetween 48 = .ok (.iload_n 3, 1) := dk_29 (dk_at dksX4_doorBetween_2 3 rfl rfl)
theorem dX4_doorBetween_49 : decode cX4_doorBetween 49 = .ok (.ireturn, 1) := dk_172 (dk_at dksX4_doorBetween_2 4 rfl rfl)
theorem dX4_doorBetween_50 : decode cX4_doorBetween 50 = .ok (.iinc 3 1, 3) := dk_132 3 1 (dk_at dksX4_doorBetween_2 5 rfl rfl)
theorem dX4_doorBetween_53 : decode cX4_doorBetween 53 = .ok (.goto (-51), 3) := dk_167 255 205 (dk_at dksX4_doorBetween_2 8 rfl rfl)
theorem dX4_doorBetween_56 : decode cX4_doorBetween 56 = .ok (.iconst (-1), 1) := dk_2 (dk_at dksX4_doorBetween_2 11 rfl rfl)
theorem dX4_doorBetween_57 : decode cX4_doorBetween 57 = .ok (.ireturn, 1) := dk_172 (dk_at dksX4_doorBetween_2 12 rfl rfl)
abbrev cX4_goesOut : ByteArray := prog_20_method_74_code
def yX4_goesOut : MethodName := ⟨RX4, "goesOut", "(II)V"⟩
def dkwX4_goesOut_1 : List UInt8 := [7, 96, 92, 46, 4, 96, 79, 177]
abbrev dktX4_goesOut_1 : List UInt8 := dkwX4_goesOut_1 ++ []
def dkwX4_goesOut_0 : List UInt8 := [16, 10, 16, 6, 27, 104, 96, 62, 42, 180, 0, 39, 29, 42, 28, 182, 1, 48, 79, 42, 180, 0, 39, 29]
abbrev dktX4_goesOut_0 : List UInt8 := dkwX4_goesOut_0 ++ dktX4_goesOut_1
theorem dksX4_goesOut_0 : cX4_goesOut.data.toList.drop 0 = dktX4_goesOut_0 := by decide +kernel
theorem dksX4_goesOut_1 : cX4_goesOut.data.toList.drop 24 = dktX4_goesOut_1 := dk_seg dksX4_goesOut_0 24 rfl rfl
theorem dX4_goesOut_0 : decode cX4_goesOut 0 = .ok (.bipush 10, 2) := dk_16 10 (dk_at dksX4_goesOut_0 0 rfl rfl)
theorem dX4_goesOut_2 : decode cX4_goesOut 2 = .ok (.bipush 6, 2) := dk_16 6 (dk_at dksX4_goesOut_0 2 rfl rfl)
theorem dX4_goesOut_4 : decode cX4_goesOut 4 = .ok (.iload_n 1, 1) := dk_27 (dk_at dksX4_goesOut_0 4 rfl rfl)
theorem dX4_goesOut_5 : decode cX4_goesOut 5 = .ok (.imul, 1) := dk_104 (dk_at dksX4_goesOut_0 5 rfl rfl)
theorem dX4_goesOut_6 : decode cX4_goesOut 6 = .ok (.iadd, 1) := dk_96 (dk_at dksX4_goesOut_0 6 rfl rfl)
theorem dX4_goesOut_7 : decode cX4_goesOut 7 = .ok (.istore_n 3, 1) := dk_62 (dk_at dksX4_goesOut_0 7 rfl rfl)
theorem dX4_goesOut_8 : decode cX4_goesOut 8 = .ok (.aload_n 0, 1) := dk_42 (dk_at dksX4_goesOut_0 8 rfl rfl)
theorem dX4_goesOut_9 : decode cX4_goesOut 9 = .ok (.getfield 39, 3) := dk_180 0 39 (dk_at dksX4_goesOut_0 9 rfl rfl)
theorem dX4_goesOut_12 : decode cX4_goesOut 12 = .ok (.iload_n 3, 1) := dk_29 (dk_at dksX4_goesOut_0 12 rfl rfl)
theorem dX4_goesOut_13 : decode cX4_goesOut 13 = .ok (.aload_n 0, 1) := dk_42 (dk_at dksX4_goesOut_0 13 rfl rfl)
theorem dX4_goesOut_14 : decode cX4_goesOut 14 = .ok (.iload_n 2, 1) := dk_28 (dk_at dksX4_goesOut_0 14 rfl rfl)
theorem dX4_goesOut_15 : decode cX4_goesOut 15 = .ok (.invokevirtual 304, 3) := dk_182 1 48 (dk_at dksX4_goesOut_0 15 rfl rfl)
theorem dX4_goesOut_18 : decode cX4_goesOut 18 = .ok (.iastore, 1) := dk_79 (dk_at dksX4_goesOut_0 18 rfl rfl)
theorem dX4_goesOut_19 : decode cX4_goesOut 19 = .ok (.aload_n 0, 1) := dk_42 (dk_at dksX4_goesOut_0 19 rfl rfl)
theorem dX4_goesOut_20 : decode cX4_goesOut 20 = .ok (.getfield 39, 3) := dk_180 0 39 (dk_at dksX4_goesOut_0 20 rfl rfl)
theorem dX4_goesOut_23 : decode cX4_goesOut 23 = .ok (.iload_n 3, 1) := dk_29 (dk_at dksX4_goesOut_0 23 rfl rfl)
theorem dX4_goesOut_24 : decode cX4_goesOut 24 = .ok (.iconst 4, 1) := dk_7 (dk_at dksX4_goesOut_1 0 rfl rfl)
theorem dX4_goesOut_25 : decode cX4_goesOut 25 = .ok (.iadd, 1) := dk_96 (dk_at dksX4_goesOut_1 1 rfl rfl)
theorem dX4_goesOut_26 : decode cX4_goesOut 26 = .ok (.dup2, 1) := dk_92 (dk_at dksX4_goesOut_1 2 rfl rfl)
theorem dX4_goesOut_27 : decode cX4_goesOut 27 = .ok (.iaload, 1) := dk_46 (dk_at dksX4_goesOut_1 3 rfl rfl)
theorem dX4_goesOut_28 : decode cX4_goesOut 28 = .ok (.iconst 1, 1) := dk_4 (dk_at dksX4_goesOut_1 4 rfl rfl)
theorem dX4_goesOut_29 : decode cX4_goesOut 29 = .ok (.iadd, 1) := dk_96 (dk_at dksX4_goesOut_1 5 rfl rfl)
theorem dX4_goesOut_30 : decode cX4_goesOut 30 = .ok (.iastore, 1) := dk_79 (dk_at dksX4_goesOut_1 6 rfl rfl)
theorem dX4_goesOut_31 : decode cX4_goesOut 31 = .ok (.return_, 1) := dk_177 (dk_at dksX4_goesOut_1 7 rfl rfl)
abbrev cX4_willer : ByteArray := prog_20_method_76_code
def yX4_willer : MethodName := ⟨RX4, "willer", "(IZI)I"⟩
def dkwX4_willer_2 : List UInt8 := [21, 5, 172, 132, 4, 255, 132, 5, 1, 167, 255, 206, 2, 172]
abbrev dktX4_willer_2 : List UInt8 := dkwX4_willer_2 ++ []
def dkwX4_willer_1 : List UInt8 := [27, 160, 0, 28, 42, 180, 0, 52, 21, 5, 51, 28, 159, 0, 6, 167, 0, 14, 21, 4, 154, 0, 6]
abbrev dktX4_willer_1 : List UInt8 := dkwX4_willer_1 ++ dktX4_willer_2
def dkwX4_willer_0 : List UInt8 := [29, 54, 4, 3, 54, 5, 21, 5, 42, 180, 0, 39, 5, 46, 162, 0, 45, 42, 180, 0, 49, 21, 5, 46]
abbrev dktX4_willer_0 : List UInt8 := dkwX4_willer_0 ++ dktX4_willer_1
theorem dksX4_willer_0 : cX4_willer.data.toList.drop 0 = dktX4_willer_0 := by decide +kernel
theorem dksX4_willer_1 : cX4_willer.data.toList.drop 24 = dktX4_willer_1 := dk_seg dksX4_willer_0 24 rfl rfl
theorem dksX4_willer_2 : cX4_willer.data.toList.drop 47 = dktX4_willer_2 := dk_seg dksX4_willer_1 23 rfl rfl
theorem dX4_willer_0 : decode cX4_willer 0 = .ok (.iload_n 3, 1) := dk_29 (dk_at dksX4_willer_0 0 rfl rfl)
theorem dX4_willer_1 : decode cX4_willer 1 = .ok (.istore 4, 2) := dk_54 4 (dk_at dksX4_willer_0 1 rfl rfl)
theorem dX4_willer_3 : decode cX4_willer 3 = .ok (.iconst 0, 1) := dk_3 (dk_at dksX4_willer_0 3 rfl rfl)
theorem dX4_willer_4 : decode cX4_willer 4 = .ok (.istore 5, 2) := dk_54 5 (dk_at dksX4_willer_0 4 rfl rfl)
theorem dX4_willer_6 : decode cX4_willer 6 = .ok (.iload 5, 2) := dk_21 5 (dk_at dksX4_willer_0 6 rfl rfl)
theorem dX4_willer_8 : decode cX4_willer 8 = .ok (.aload_n 0, 1) := dk_42 (dk_at dksX4_willer_0 8 rfl rfl)
theorem dX4_willer_9 : decode cX4_willer 9 = .ok (.getfield 39, 3) := dk_180 0 39 (dk_at dksX4_willer_0 9 rfl rfl)
theorem dX4_willer_12 : decode cX4_willer 12 = .ok (.iconst 2, 1) := dk_5 (dk_at dksX4_willer_0 12 rfl rfl)
theorem dX4_willer_13 : decode cX4_willer 13 = .ok (.iaload, 1) := dk_46 (dk_at dksX4_willer_0 13 rfl rfl)
theorem dX4_willer_14 : decode cX4_willer 14 = .ok (.if_icmp .ge 45, 3) := dk_162 0 45 (dk_at dksX4_willer_0 14 rfl rfl)
theorem dX4_willer_17 : decode cX4_willer 17 = .ok (.aload_n 0, 1) := dk_42 (dk_at dksX4_willer_0 17 rfl rfl)
theorem dX4_willer_18 : decode cX4_willer 18 = .ok (.getfield 49, 3) := dk_180 0 49 (dk_at dksX4_willer_0 18 rfl rfl)
theorem dX4_willer_21 : decode cX4_willer 21 = .ok (.iload 5, 2) := dk_21 5 (dk_at dksX4_willer_0 21 rfl rfl)
theorem dX4_willer_23 : decode cX4_willer 23 = .ok (.iaload, 1) := dk_46 (dk_at dksX4_willer_0 23 rfl rfl)
theorem dX4_willer_24 : decode cX4_willer 24 = .ok (.iload_n 1, 1) := dk_27 (dk_at dksX4_willer_1 0 rfl rfl)
theorem dX4_willer_25 : decode cX4_willer 25 = .ok (.if_icmp .ne 28, 3) := dk_160 0 28 (dk_at dksX4_willer_1 1 rfl rfl)
theorem dX4_willer_28 : decode cX4_willer 28 = .ok (.aload_n 0, 1) := dk_42 (dk_at dksX4_willer_1 4 rfl rfl)
theorem dX4_willer_29 : decode cX4_willer 29 = .ok (.getfield 52, 3) := dk_180 0 52 (dk_at dksX4_willer_1 5 rfl rfl)
theorem dX4_willer_32 : decode cX4_willer 32 = .ok (.iload 5, 2) := dk_21 5 (dk_at dksX4_willer_1 8 rfl rfl)
theorem dX4_willer_34 : decode cX4_willer 34 = .ok (.baload, 1) := dk_51 (dk_at dksX4_willer_1 10 rfl rfl)
theorem dX4_willer_35 : decode cX4_willer 35 = .ok (.iload_n 2, 1) := dk_28 (dk_at dksX4_willer_1 11 rfl rfl)
theorem dX4_willer_36 : decode cX4_willer 36 = .ok (.if_icmp .eq 6, 3) := dk_159 0 6 (dk_at dksX4_willer_1 12 rfl rfl)
theorem dX4_willer_39 : decode cX4_willer 39 = .ok (.goto 14, 3) := dk_167 0 14 (dk_at dksX4_willer_1 15 rfl rfl)
theorem dX4_willer_42 : decode cX4_willer 42 = .ok (.iload 4, 2) := dk_21 4 (dk_at dksX4_willer_1 18 rfl rfl)
theorem dX4_willer_44 : decode cX4_willer 44 = .ok (.ifCond .ne 6, 3) := dk_154 0 6 (dk_at dksX4_willer_1 20 rfl rfl)
theorem dX4_willer_47 : decode cX4_willer 47 = .ok (.iload 5, 2) := dk_21 5 (dk_at dksX4_willer_2 0 rfl rfl)
theorem dX4_willer_49 : decode cX4_willer 49 = .ok (.ireturn, 1) := dk_172 (dk_at dksX4_willer_2 2 rfl rfl)
theorem dX4_willer_50 : decode cX4_willer 50 = .ok (.iinc 4 (-1), 3) := dk_132 4 255 (dk_at dksX4_willer_2 3 rfl rfl)
theorem dX4_willer_53 : decode cX4_willer 53 = .ok (.iinc 5 1, 3) := dk_132 5 1 (dk_at dksX4_willer_2 6 rfl rfl)
theorem dX4_willer_56 : decode cX4_willer 56 = .ok (.goto (-50), 3) := dk_167 255 206 (dk_at dksX4_willer_2 9 rfl rfl)
theorem dX4_willer_59 : decode cX4_willer 59 = .ok (.iconst (-1), 1) := dk_2 (dk_at dksX4_willer_2 12 rfl rfl)
theorem dX4_willer_60 : decode cX4_willer 60 = .ok (.ireturn, 1) := dk_172 (dk_at dksX4_willer_2 13 rfl rfl)
abbrev cX4_comesIn : ByteArray := prog_20_method_75_code
def yX4_comesIn : MethodName := ⟨RX4, "comesIn", "(III)V"⟩
def dkwX4_comesIn_1 : List UInt8 := [180, 0, 39, 21, 4, 6, 96, 92, 46, 4, 96, 79, 42, 180, 0, 39, 21, 4, 8, 96, 29, 79, 177]
abbrev dktX4_comesIn_1 : List UInt8 := dkwX4_comesIn_1 ++ []
def dkwX4_comesIn_0 : List UInt8 := [16, 10, 16, 6, 27, 104, 96, 54, 4, 42, 180, 0, 39, 21, 4, 42, 28, 182, 1, 45, 79, 42]
abbrev dktX4_comesIn_0 : List UInt8 := dkwX4_comesIn_0 ++ dktX4_comesIn_1
theorem dksX4_comesIn_0 : cX4_comesIn.data.toList.drop 0 = dktX4_comesIn_0 := by decide +kernel
theorem dksX4_comesIn_1 : cX4_comesIn.data.toList.drop 22 = dktX4_comesIn_1 := dk_seg dksX4_comesIn_0 22 rfl rfl
theorem dX4_comesIn_0 : decode cX4_comesIn 0 = .ok (.bipush 10, 2) := dk_16 10 (dk_at dksX4_comesIn_0 0 rfl rfl)
theorem dX4_comesIn_2 : decode cX4_comesIn 2 = .ok (.bipush 6, 2) := dk_16 6 (dk_at dksX4_comesIn_0 2 rfl rfl)
theorem dX4_comesIn_4 : decode cX4_comesIn 4 = .ok (.iload_n 1, 1) := dk_27 (dk_at dksX4_comesIn_0 4 rfl rfl)
theorem dX4_comesIn_5 : decode cX4_comesIn 5 = .ok (.imul, 1) := dk_104 (dk_at dksX4_comesIn_0 5 rfl rfl)
theorem dX4_comesIn_6 : decode cX4_comesIn 6 = .ok (.iadd, 1) := dk_96 (dk_at dksX4_comesIn_0 6 rfl rfl)
theorem dX4_comesIn_7 : decode cX4_comesIn 7 = .ok (.istore 4, 2) := dk_54 4 (dk_at dksX4_comesIn_0 7 rfl rfl)
theorem dX4_comesIn_9 : decode cX4_comesIn 9 = .ok (.aload_n 0, 1) := dk_42 (dk_at dksX4_comesIn_0 9 rfl rfl)
theorem dX4_comesIn_10 : decode cX4_comesIn 10 = .ok (.getfield 39, 3) := dk_180 0 39 (dk_at dksX4_comesIn_0 10 rfl rfl)
theorem dX4_comesIn_13 : decode cX4_comesIn 13 = .ok (.iload 4, 2) := dk_21 4 (dk_at dksX4_comesIn_0 13 rfl rfl)
theorem dX4_comesIn_15 : decode cX4_comesIn 15 = .ok (.aload_n 0, 1) := dk_42 (dk_at dksX4_comesIn_0 15 rfl rfl)
theorem dX4_comesIn_16 : decode cX4_comesIn 16 = .ok (.iload_n 2, 1) := dk_28 (dk_at dksX4_comesIn_0 16 rfl rfl)
theorem dX4_comesIn_17 : decode cX4_comesIn 17 = .ok (.invokevirtual 301, 3) := dk_182 1 45 (dk_at dksX4_comesIn_0 17 rfl rfl)
theorem dX4_comesIn_20 : decode cX4_comesIn 20 = .ok (.iastore, 1) := dk_79 (dk_at dksX4_comesIn_0 20 rfl rfl)
theorem dX4_comesIn_21 : decode cX4_comesIn 21 = .ok (.aload_n 0, 1) := dk_42 (dk_at dksX4_comesIn_0 21 rfl rfl)
theorem dX4_comesIn_22 : decode cX4_comesIn 22 = .ok (.getfield 39, 3) := dk_180 0 39 (dk_at dksX4_comesIn_1 0 rfl rfl)
theorem dX4_comesIn_25 : decode cX4_comesIn 25 = .ok (.iload 4, 2) := dk_21 4 (dk_at dksX4_comesIn_1 3 rfl rfl)
theorem dX4_comesIn_27 : decode cX4_comesIn 27 = .ok (.iconst 3, 1) := dk_6 (dk_at dksX4_comesIn_1 5 rfl rfl)
theorem dX4_comesIn_28 : decode cX4_comesIn 28 = .ok (.iadd, 1) := dk_96 (dk_at dksX4_comesIn_1 6 rfl rfl)
theorem dX4_comesIn_29 : decode cX4_comesIn 29 = .ok (.dup2, 1) := dk_92 (dk_at dksX4_comesIn_1 7 rfl rfl)
theorem dX4_comesIn_30 : decode cX4_comesIn 30 = .ok (.iaload, 1) := dk_46 (dk_at dksX4_comesIn_1 8 rfl rfl)
theorem dX4_comesIn_31 : decode cX4_comesIn 31 = .ok (.iconst 1, 1) := dk_4 (dk_at dksX4_comesIn_1 9 rfl rfl)
theorem dX4_comesIn_32 : decode cX4_comesIn 32 = .ok (.iadd, 1) := dk_96 (dk_at dksX4_comesIn_1 10 rfl rfl)
theorem dX4_comesIn_33 : decode cX4_comesIn 33 = .ok (.iastore, 1) := dk_79 (dk_at dksX4_comesIn_1 11 rfl rfl)
theorem dX4_comesIn_34 : decode cX4_comesIn 34 = .ok (.aload_n 0, 1) := dk_42 (dk_at dksX4_comesIn_1 12 rfl rfl)
theorem dX4_comesIn_35 : decode cX4_comesIn 35 = .ok (.getfield 39, 3) := dk_180 0 39 (dk_at dksX4_comesIn_1 13 rfl rfl)
theorem dX4_comesIn_38 : decode cX4_comesIn 38 = .ok (.iload 4, 2) := dk_21 4 (dk_at dksX4_comesIn_1 16 rfl rfl)
theorem dX4_comesIn_40 : decode cX4_comesIn 40 = .ok (.iconst 5, 1) := dk_8 (dk_at dksX4_comesIn_1 18 rfl rfl)
theorem dX4_comesIn_41 : decode cX4_comesIn 41 = .ok (.iadd, 1) := dk_96 (dk_at dksX4_comesIn_1 19 rfl rfl)
theorem dX4_comesIn_42 : decode cX4_comesIn 42 = .ok (.iload_n 3, 1) := dk_29 (dk_at dksX4_comesIn_1 20 rfl rfl)
theorem dX4_comesIn_43 : decode cX4_comesIn 43 = .ok (.iastore, 1) := dk_79 (dk_at dksX4_comesIn_1 21 rfl rfl)
theorem dX4_comesIn_44 : decode cX4_comesIn 44 = .ok (.return_, 1) := dk_177 (dk_at dksX4_comesIn_1 22 rfl rfl)
abbrev cX4_aim : ByteArray := prog_20_method_81_code
def yX4_aim : MethodName := ⟨RX4, "aim", "(II)I"⟩
def dkwX4_aim_2 : List UInt8 := [27, 104, 96, 4, 96, 28, 79, 29, 172]
abbrev dktX4_aim_2 : List UInt8 := dkwX4_aim_2 ++ []
def dkwX4_aim_1 : List UInt8 := [160, 0, 5, 2, 172, 42, 182, 1, 136, 42, 27, 4, 182, 1, 23, 62, 42, 180, 0, 39, 16, 10, 16, 6]
abbrev dktX4_aim_1 : List UInt8 := dkwX4_aim_1 ++ dktX4_aim_2
def dkwX4_aim_0 : List UInt8 := [42, 27, 182, 1, 72, 153, 0, 21, 42, 28, 182, 1, 80, 153, 0, 13, 42, 27, 4, 182, 1, 23, 28]
abbrev dktX4_aim_0 : List UInt8 := dkwX4_aim_0 ++ dktX4_aim_1
theorem dksX4_aim_0 : cX4_aim.data.toList.drop 0 = dktX4_aim_0 := by decide +kernel
theorem dksX4_aim_1 : cX4_aim.data.toList.drop 23 = dktX4_aim_1 := dk_seg dksX4_aim_0 23 rfl rfl
theorem dksX4_aim_2 : cX4_aim.data.toList.drop 47 = dktX4_aim_2 := dk_seg dksX4_aim_1 24 rfl rfl
theorem dX4_aim_0 : decode cX4_aim 0 = .ok (.aload_n 0, 1) := dk_42 (dk_at dksX4_aim_0 0 rfl rfl)
theorem dX4_aim_1 : decode cX4_aim 1 = .ok (.iload_n 1, 1) := dk_27 (dk_at dksX4_aim_0 1 rfl rfl)
theorem dX4_aim_2 : decode cX4_aim 2 = .ok (.invokevirtual 328, 3) := dk_182 1 72 (dk_at dksX4_aim_0 2 rfl rfl)
theorem dX4_aim_5 : decode cX4_aim 5 = .ok (.ifCond .eq 21, 3) := dk_153 0 21 (dk_at dksX4_aim_0 5 rfl rfl)
theorem dX4_aim_8 : decode cX4_aim 8 = .ok (.aload_n 0, 1) := dk_42 (dk_at dksX4_aim_0 8 rfl rfl)
theorem dX4_aim_9 : decode cX4_aim 9 = .ok (.iload_n 2, 1) := dk_28 (dk_at dksX4_aim_0 9 rfl rfl)
theorem dX4_aim_10 : decode cX4_aim 10 = .ok (.invokevirtual 336, 3) := dk_182 1 80 (dk_at dksX4_aim_0 10 rfl rfl)
theorem dX4_aim_13 : decode cX4_aim 13 = .ok (.ifCond .eq 13, 3) := dk_153 0 13 (dk_at dksX4_aim_0 13 rfl rfl)
theorem dX4_aim_16 : decode cX4_aim 16 = .ok (.aload_n 0, 1) := dk_42 (dk_at dksX4_aim_0 16 rfl rfl)
theorem dX4_aim_17 : decode cX4_aim 17 = .ok (.iload_n 1, 1) := dk_27 (dk_at dksX4_aim_0 17 rfl rfl)
theorem dX4_aim_18 : decode cX4_aim 18 = .ok (.iconst 1, 1) := dk_4 (dk_at dksX4_aim_0 18 rfl rfl)
theorem dX4_aim_19 : decode cX4_aim 19 = .ok (.invokevirtual 279, 3) := dk_182 1 23 (dk_at dksX4_aim_0 19 rfl rfl)
theorem dX4_aim_22 : decode cX4_aim 22 = .ok (.iload_n 2, 1) := dk_28 (dk_at dksX4_aim_0 22 rfl rfl)
theorem dX4_aim_23 : decode cX4_aim 23 = .ok (.if_icmp .ne 5, 3) := dk_160 0 5 (dk_at dksX4_aim_1 0 rfl rfl)
theorem dX4_aim_26 : decode cX4_aim 26 = .ok (.iconst (-1), 1) := dk_2 (dk_at dksX4_aim_1 3 rfl rfl)
theorem dX4_aim_27 : decode cX4_aim 27 = .ok (.ireturn, 1) := dk_172 (dk_at dksX4_aim_1 4 rfl rfl)
theorem dX4_aim_28 : decode cX4_aim 28 = .ok (.aload_n 0, 1) := dk_42 (dk_at dksX4_aim_1 5 rfl rfl)
theorem dX4_aim_29 : decode cX4_aim 29 = .ok (.invokevirtual 392, 3) := dk_182 1 136 (dk_at dksX4_aim_1 6 rfl rfl)
theorem dX4_aim_32 : decode cX4_aim 32 = .ok (.aload_n 0, 1) := dk_42 (dk_at dksX4_aim_1 9 rfl rfl)
theorem dX4_aim_33 : decode cX4_aim 33 = .ok (.iload_n 1, 1) := dk_27 (dk_at dksX4_aim_1 10 rfl rfl)
theorem dX4_aim_34 : decode cX4_aim 34 = .ok (.iconst 1, 1) := dk_4 (dk_at dksX4_aim_1 11 rfl rfl)
theorem dX4_aim_35 : decode cX4_aim 35 = .ok (.invokevirtual 279, 3) := dk_182 1 23 (dk_at dksX4_aim_1 12 rfl rfl)
theorem dX4_aim_38 : decode cX4_aim 38 = .ok (.istore_n 3, 1) := dk_62 (dk_at dksX4_aim_1 15 rfl rfl)
theorem dX4_aim_39 : decode cX4_aim 39 = .ok (.aload_n 0, 1) := dk_42 (dk_at dksX4_aim_1 16 rfl rfl)
theorem dX4_aim_40 : decode cX4_aim 40 = .ok (.getfield 39, 3) := dk_180 0 39 (dk_at dksX4_aim_1 17 rfl rfl)
theorem dX4_aim_43 : decode cX4_aim 43 = .ok (.bipush 10, 2) := dk_16 10 (dk_at dksX4_aim_1 20 rfl rfl)
theorem dX4_aim_45 : decode cX4_aim 45 = .ok (.bipush 6, 2) := dk_16 6 (dk_at dksX4_aim_1 22 rfl rfl)
theorem dX4_aim_47 : decode cX4_aim 47 = .ok (.iload_n 1, 1) := dk_27 (dk_at dksX4_aim_2 0 rfl rfl)
theorem dX4_aim_48 : decode cX4_aim 48 = .ok (.imul, 1) := dk_104 (dk_at dksX4_aim_2 1 rfl rfl)
theorem dX4_aim_49 : decode cX4_aim 49 = .ok (.iadd, 1) := dk_96 (dk_at dksX4_aim_2 2 rfl rfl)
theorem dX4_aim_50 : decode cX4_aim 50 = .ok (.iconst 1, 1) := dk_4 (dk_at dksX4_aim_2 3 rfl rfl)
theorem dX4_aim_51 : decode cX4_aim 51 = .ok (.iadd, 1) := dk_96 (dk_at dksX4_aim_2 4 rfl rfl)
theorem dX4_aim_52 : decode cX4_aim 52 = .ok (.iload_n 2, 1) := dk_28 (dk_at dksX4_aim_2 5 rfl rfl)
theorem dX4_aim_53 : decode cX4_aim 53 = .ok (.iastore, 1) := dk_79 (dk_at dksX4_aim_2 6 rfl rfl)
theorem dX4_aim_54 : decode cX4_aim 54 = .ok (.iload_n 3, 1) := dk_29 (dk_at dksX4_aim_2 7 rfl rfl)
theorem dX4_aim_55 : decode cX4_aim 55 = .ok (.ireturn, 1) := dk_172 (dk_at dksX4_aim_2 8 rfl rfl)