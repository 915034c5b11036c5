set_option maxRecDepth 100000
abbrev cX4_send : ByteArray := prog_20_method_82_code
def yX4_send : MethodName := ⟨RX4, "send", "(III)Z"⟩
def dkwX4_send_4 : List UInt8 := [182, 1, 129, 4, 172]
abbrev dktX4_send_4 : List UInt8 := dkwX4_send_4 ++ []
def dkwX4_send_3 : List UInt8 := [159, 0, 5, 3, 172, 42, 182, 1, 136, 42, 27, 28, 182, 1, 122, 29, 2, 159, 0, 10, 42, 29, 28, 27]
abbrev dktX4_send_3 : List UInt8 := dkwX4_send_3 ++ dktX4_send_4
def dkwX4_send_2 : List UInt8 := [182, 1, 72, 153, 0, 22, 29, 27, 159, 0, 17, 42, 29, 3, 182, 1, 23, 42, 28, 182, 1, 48]
abbrev dktX4_send_2 : List UInt8 := dkwX4_send_2 ++ dktX4_send_3
def dkwX4_send_1 : List UInt8 := [42, 27, 3, 182, 1, 23, 42, 28, 182, 1, 45, 159, 0, 5, 3, 172, 29, 2, 159, 0, 32, 42, 29]
abbrev dktX4_send_1 : List UInt8 := dkwX4_send_1 ++ dktX4_send_2
def dkwX4_send_0 : List UInt8 := [42, 27, 182, 1, 72, 153, 0, 33, 42, 28, 182, 1, 91, 153, 0, 25, 42, 28, 182, 1, 54, 153, 0, 17]
abbrev dktX4_send_0 : List UInt8 := dkwX4_send_0 ++ dktX4_send_1
theorem dksX4_send_0 : cX4_send.data.toList.drop 0 = dktX4_send_0 := by decide +kernel
theorem dksX4_send_1 : cX4_send.data.toList.drop 24 = dktX4_send_1 := dk_seg dksX4_send_0 24 rfl rfl
theorem dksX4_send_2 : cX4_send.data.toList.drop 47 = dktX4_send_2 := dk_seg dksX4_send_1 23 rfl rfl
theorem dksX4_send_3 : cX4_send.data.toList.drop 69 = dktX4_send_3 := dk_seg dksX4_send_2 22 rfl rfl
theorem dksX4_send_4 : cX4_send.data.toList.drop 93 = dktX4_send_4 := dk_seg dksX4_send_3 24 rfl rfl
theorem dX4_send_0 : decode cX4_send 0 = .ok (.aload_n 0, 1) := dk_42 (dk_at dksX4_send_0 0 rfl rfl)
theorem dX4_send_1 : decode cX4_send 1 = .ok (.iload_n 1, 1) := dk_27 (dk_at dksX4_send_0 1 rfl rfl)
theorem dX4_send_2 : decode cX4_send 2 = .ok (.invokevirtual 328, 3) := dk_182 1 72 (dk_at dksX4_send_0 2 rfl rfl)
theorem dX4_send_5 : decode cX4_send 5 = .ok (.ifCond .eq 33, 3) := dk_153 0 33 (dk_at dksX4_send_0 5 rfl rfl)
theorem dX4_send_8 : decode cX4_send 8 = .ok (.aload_n 0, 1) := dk_42 (dk_at dksX4_send_0 8 rfl rfl)
theorem dX4_send_9 : decode cX4_send 9 = .ok (.iload_n 2, 1) := dk_28 (dk_at dksX4_send_0 9 rfl rfl)
theorem dX4_send_10 : decode cX4_send 10 = .ok (.invokevirtual 347, 3) := dk_182 1 91 (dk_at dksX4_send_0 10 rfl rfl)
theorem dX4_send_13 : decode cX4_send 13 = .ok (.ifCond .eq 25, 3) := dk_153 0 25 (dk_at dksX4_send_0 13 rfl rfl)
theorem dX4_send_16 : decode cX4_send 16 = .ok (.aload_n 0, 1) := dk_42 (dk_at dksX4_send_0 16 rfl rfl)
theorem dX4_send_17 : decode cX4_send 17 = .ok (.iload_n 2, 1) := dk_28 (dk_at dksX4_send_0 17 rfl rfl)
theorem dX4_send_18 : decode cX4_send 18 = .ok (.invokevirtual 310, 3) := dk_182 1 54 (dk_at dksX4_send_0 18 rfl rfl)
theorem dX4_send_21 : decode cX4_send 21 = .ok (.ifCond .eq 17, 3) := dk_153 0 17 (dk_at dksX4_send_0 21 rfl rfl)
theorem dX4_send_24 : decode cX4_send 24 = .ok (.aload_n 0, 1) := dk_42 (dk_at dksX4_send_1 0 rfl rfl)
theorem dX4_send_25 : decode cX4_send 25 = .ok (.iload_n 1, 1) := dk_27 (dk_at dksX4_send_1 1 rfl rfl)
theorem dX4_send_26 : decode cX4_send 26 = .ok (.iconst 0, 1) := dk_3 (dk_at dksX4_send_1 2 rfl rfl)
theorem dX4_send_27 : decode cX4_send 27 = .ok (.invokevirtual 279, 3) := dk_182 1 23 (dk_at dksX4_send_1 3 rfl rfl)
theorem dX4_send_30 : decode cX4_send 30 = .ok (.aload_n 0, 1) := dk_42 (dk_at dksX4_send_1 6 rfl rfl)
theorem dX4_send_31 : decode cX4_send 31 = .ok (.iload_n 2, 1) := dk_28 (dk_at dksX4_send_1 7 rfl rfl)
theorem dX4_send_32 : decode cX4_send 32 = .ok (.invokevirtual 301, 3) := dk_182 1 45 (dk_at dksX4_send_1 8 rfl rfl)
theorem dX4_send_35 : decode cX4_send 35 = .ok (.if_icmp .eq 5, 3) := dk_159 0 5 (dk_at dksX4_send_1 11 rfl rfl)
theorem dX4_send_38 : decode cX4_send 38 = .ok (.iconst 0, 1) := dk_3 (dk_at dksX4_send_1 14 rfl rfl)
theorem dX4_send_39 : decode cX4_send 39 = .ok (.ireturn, 1) := dk_172 (dk_at dksX4_send_1 15 rfl rfl)
theorem dX4_send_40 : decode cX4_send 40 = .ok (.iload_n 3, 1) := dk_29 (dk_at dksX4_send_1 16 rfl rfl)
theorem dX4_send_41 : decode cX4_send 41 = .ok (.iconst (-1), 1) := dk_2 (dk_at dksX4_send_1 17 rfl rfl)
theorem dX4_send_42 : decode cX4_send 42 = .ok (.if_icmp .eq 32, 3) := dk_159 0 32 (dk_at dksX4_send_1 18 rfl rfl)
theorem dX4_send_45 : decode cX4_send 45 = .ok (.aload_n 0, 1) := dk_42 (dk_at dksX4_send_1 21 rfl rfl)
theorem dX4_send_46 : decode cX4_send 46 = .ok (.iload_n 3, 1) := dk_29 (dk_at dksX4_send_1 22 rfl rfl)
theorem dX4_send_47 : decode cX4_send 47 = .ok (.invokevirtual 328, 3) := dk_182 1 72 (dk_at dksX4_send_2 0 rfl rfl)
theorem dX4_send_50 : decode cX4_send 50 = .ok (.ifCond .eq 22, 3) := dk_153 0 22 (dk_at dksX4_send_2 3 rfl rfl)
theorem dX4_send_53 : decode cX4_send 53 = .ok (.iload_n 3, 1) := dk_29 (dk_at dksX4_send_2 6 rfl rfl)
theorem dX4_send_54 : decode cX4_send 54 = .ok (.iload_n 1, 1) := dk_27 (dk_at dksX4_send_2 7 rfl rfl)
theorem dX4_send_55 : decode cX4_send 55 = .ok (.if_icmp .eq 17, 3) := dk_159 0 17 (dk_at dksX4_send_2 8 rfl rfl)
theorem dX4_send_58 : decode cX4_send 58 = .ok (.aload_n 0, 1) := dk_42 (dk_at dksX4_send_2 11 rfl rfl)
theorem dX4_send_59 : decode cX4_send 59 = .ok (.iload_n 3, 1) := dk_29 (dk_at dksX4_send_2 12 rfl rfl)
theorem dX4_send_60 : decode cX4_send 60 = .ok (.iconst 0, 1) := dk_3 (dk_at dksX4_send_2 13 rfl rfl)
theorem dX4_send_61 : decode cX4_send 61 = .ok (.invokevirtual 279, 3) := dk_182 1 23 (dk_at dksX4_send_2 14 rfl rfl)
theorem dX4_send_64 : decode cX4_send 64 = .ok (.aload_n 0, 1) := dk_42 (dk_at dksX4_send_2 17 rfl rfl)
theorem dX4_send_65 : decode cX4_send 65 = .ok (.iload_n 2, 1) := dk_28 (dk_at dksX4_send_2 18 rfl rfl)
theorem dX4_send_66 : decode cX4_send 66 = .ok (.invokevirtual 304, 3) := dk_182 1 48 (dk_at dksX4_send_2 19 rfl rfl)
theorem dX4_send_69 : decode cX4_send 69 = .ok (.if_icmp .eq 5, 3) := dk_159 0 5 (dk_at dksX4_send_3 0 rfl rfl)
theorem dX4_send_72 : decode cX4_send 72 = .ok (.iconst 0, 1) := dk_3 (dk_at dksX4_send_3 3 rfl rfl)
theorem dX4_send_73 : decode cX4_send 73 = .ok (.ireturn, 1) := dk_172 (dk_at dksX4_send_3 4 rfl rfl)
theorem dX4_send_74 : decode cX4_send 74 = .ok (.aload_n 0, 1) := dk_42 (dk_at dksX4_send_3 5 rfl rfl)
theorem dX4_send_75 : decode cX4_send 75 = .ok (.invokevirtual 392, 3) := dk_182 1 136 (dk_at dksX4_send_3 6 rfl rfl)
theorem dX4_send_78 : decode cX4_send 78 = .ok (.aload_n 0, 1) := dk_42 (dk_at dksX4_send_3 9 rfl rfl)
theorem dX4_send_79 : decode cX4_send 79 = .ok (.iload_n 1, 1) := dk_27 (dk_at dksX4_send_3 10 rfl rfl)
theorem dX4_send_80 : decode cX4_send 80 = .ok (.iload_n 2, 1) := dk_28 (dk_at dksX4_send_3 11 rfl rfl)
theorem dX4_send_81 : decode cX4_send 81 = .ok (.invokevirtual 378, 3) := dk_182 1 122 (dk_at dksX4_send_3 12 rfl rfl)
theorem dX4_send_84 : decode cX4_send 84 = .ok (.iload_n 3, 1) := dk_29 (dk_at dksX4_send_3 15 rfl rfl)
theorem dX4_send_85 : decode cX4_send 85 = .ok (.iconst (-1), 1) := dk_2 (dk_at dksX4_send_3 16 rfl rfl)
theorem dX4_send_86 : decode cX4_send 86 = .ok (.if_icmp .eq 10, 3) := dk_159 0 10 (dk_at dksX4_send_3 17 rfl rfl)
theorem dX4_send_89 : decode cX4_send 89 = .ok (.aload_n 0, 1) := dk_42 (dk_at dksX4_send_3 20 rfl rfl)
theorem dX4_send_90 : decode cX4_send 90 = .ok (.iload_n 3, 1) := dk_29 (dk_at dksX4_send_3 21 rfl rfl)
theorem dX4_send_91 : decode cX4_send 91 = .ok (.iload_n 2, 1) := dk_28 (dk_at dksX4_send_3 22 rfl rfl)
theorem dX4_send_92 : decode cX4_send 92 = .ok (.iload_n 1, 1) := dk_27 (dk_at dksX4_send_3 23 rfl rfl)
theorem dX4_send_93 : decode cX4_send 93 = .ok (.invokevirtual 385, 3) := dk_182 1 129 (dk_at dksX4_send_4 0 rfl rfl)
theorem dX4_send_96 : decode cX4_send 96 = .ok (.iconst 1, 1) := dk_4 (dk_at dksX4_send_4 3 rfl rfl)
theorem dX4_send_97 : decode cX4_send 97 = .ok (.ireturn, 1) := dk_172 (dk_at dksX4_send_4 4 rfl rfl)
abbrev cX4_ahead : ByteArray := prog_20_method_85_code
def yX4_ahead : MethodName := ⟨RX4, "ahead", "(II)I"⟩
def dkwX4_ahead_2 : List UInt8 := [182, 1, 23, 62, 42, 182, 1, 147, 29, 172]
abbrev dktX4_ahead_2 : List UInt8 := dkwX4_ahead_2 ++ []
def dkwX4_ahead_1 : List UInt8 := [182, 1, 144, 3, 62, 29, 28, 162, 0, 14, 42, 182, 1, 139, 87, 132, 3, 1, 167, 255, 243, 42, 27, 3]
abbrev dktX4_ahead_1 : List UInt8 := dkwX4_ahead_1 ++ dktX4_ahead_2
def dkwX4_ahead_0 : List UInt8 := [42, 27, 182, 1, 72, 153, 0, 15, 28, 133, 9, 20, 1, 142, 184, 0, 128, 154, 0, 5, 2, 172, 42]
abbrev dktX4_ahead_0 : List UInt8 := dkwX4_ahead_0 ++ dktX4_ahead_1
theorem dksX4_ahead_0 : cX4_ahead.data.toList.drop 0 = dktX4_ahead_0 := by decide +kernel
theorem dksX4_ahead_1 : cX4_ahead.data.toList.drop 23 = dktX4_ahead_1 := dk_seg dksX4_ahead_0 23 rfl rfl
theorem dksX4_ahead_2 : cX4_ahead.data.toList.drop 47 = dktX4_ahead_2 := dk_seg dksX4_ahead_1 24 rfl rfl
theorem dX4_ahead_0 : decode cX4_ahead 0 = .ok (.aload_n 0, 1) := dk_42 (dk_at dksX4_ahead_0 0 rfl rfl)
theorem dX4_ahead_1 : decode cX4_ahead 1 = .ok (.iload_n 1, 1) := dk_27 (dk_at dksX4_ahead_0 1 rfl rfl)
theorem dX4_ahead_2 : decode cX4_ahead 2 = .ok (.invokevirtual 328, 3) := dk_182 1 72 (dk_at dksX4_ahead_0 2 rfl rfl)
theorem dX4_ahead_5 : decode cX4_ahead 5 = .ok (.ifCond .eq 15, 3) := dk_153 0 15 (dk_at dksX4_ahead_0 5 rfl rfl)
theorem dX4_ahead_8 : decode cX4_ahead 8 = .ok (.iload_n 2, 1) := dk_28 (dk_at dksX4_ahead_0 8 rfl rfl)
theorem dX4_ahead_9 : decode cX4_ahead 9 = .ok (.i2l, 1) := dk_133 (dk_at dksX4_ahead_0 9 rfl rfl)
theorem dX4_ahead_10 : decode cX4_ahead 10 = .ok (.lconst 0, 1) := dk_9 (dk_at dksX4_ahead_0 10 rfl rfl)
theorem dX4_ahead_11 : decode cX4_ahead 11 = .ok (.ldc2_w 398, 3) := dk_20 1 142 (dk_at dksX4_ahead_0 11 rfl rfl)
theorem dX4_ahead_14 : decode cX4_ahead 14 = .ok (.invokestatic 128, 3) := dk_184 0 128 (dk_at dksX4_ahead_0 14 rfl rfl)
theorem dX4_ahead_17 : decode cX4_ahead 17 = .ok (.ifCond .ne 5, 3) := dk_154 0 5 (dk_at dksX4_ahead_0 17 rfl rfl)
theorem dX4_ahead_20 : decode cX4_ahead 20 = .ok (.iconst (-1), 1) := dk_2 (dk_at dksX4_ahead_0 20 rfl rfl)
theorem dX4_ahead_21 : decode cX4_ahead 21 = .ok (.ireturn, 1) := dk_172 (dk_at dksX4_ahead_0 21 rfl rfl)
theorem dX4_ahead_22 : decode cX4_ahead 22 = .ok (.aload_n 0, 1) := dk_42 (dk_at dksX4_ahead_0 22 rfl rfl)
theorem dX4_ahead_23 : decode cX4_ahead 23 = .ok (.invokevirtual 400, 3) := dk_182 1 144 (dk_at dksX4_ahead_1 0 rfl rfl)
theorem dX4_ahead_26 : decode cX4_ahead 26 = .ok (.iconst 0, 1) := dk_3 (dk_at dksX4_ahead_1 3 rfl rfl)
theorem dX4_ahead_27 : decode cX4_ahead 27 = .ok (.istore_n 3, 1) := dk_62 (dk_at dksX4_ahead_1 4 rfl rfl)
theorem dX4_ahead_28 : decode cX4_ahead 28 = .ok (.iload_n 3, 1) := dk_29 (dk_at dksX4_ahead_1 5 rfl rfl)
theorem dX4_ahead_29 : decode cX4_ahead 29 = .ok (.iload_n 2, 1) := dk_28 (dk_at dksX4_ahead_1 6 rfl rfl)
theorem dX4_ahead_30 : decode cX4_ahead 30 = .ok (.if_icmp .ge 14, 3) := dk_162 0 14 (dk_at dksX4_ahead_1 7 rfl rfl)
theorem dX4_ahead_33 : decode cX4_ahead 33 = .ok (.aload_n 0, 1) := dk_42 (dk_at dksX4_ahead_1 10 rfl rfl)
theorem dX4_ahead_34 : decode cX4_ahead 34 = .ok (.invokevirtual 395, 3) := dk_182 1 139 (dk_at dksX4_ahead_1 11 rfl rfl)
theorem dX4_ahead_37 : decode cX4_ahead 37 = .ok (.pop, 1) := dk_87 (dk_at dksX4_ahead_1 14 rfl rfl)
theorem dX4_ahead_38 : decode cX4_ahead 38 = .ok (.iinc 3 1, 3) := dk_132 3 1 (dk_at dksX4_ahead_1 15 rfl rfl)
theorem dX4_ahead_41 : decode cX4_ahead 41 = .ok (.goto (-13), 3) := dk_167 255 243 (dk_at dksX4_ahead_1 18 rfl rfl)
theorem dX4_ahead_44 : decode cX4_ahead 44 = .ok (.aload_n 0, 1) := dk_42 (dk_at dksX4_ahead_1 21 rfl rfl)
theorem dX4_ahead_45 : decode cX4_ahead 45 = .ok (.iload_n 1, 1) := dk_27 (dk_at dksX4_ahead_1 22 rfl rfl)
theorem dX4_ahead_46 : decode cX4_ahead 46 = .ok (.iconst 0, 1) := dk_3 (dk_at dksX4_ahead_1 23 rfl rfl)
theorem dX4_ahead_47 : decode cX4_ahead 47 = .ok (.invokevirtual 279, 3) := dk_182 1 23 (dk_at dksX4_ahead_2 0 rfl rfl)
theorem dX4_ahead_50 : decode cX4_ahead 50 = .ok (.istore_n 3, 1) := dk_62 (dk_at dksX4_ahead_2 3 rfl rfl)
theorem dX4_ahead_51 : decode cX4_ahead 51 = .ok (.aload_n 0, 1) := dk_42 (dk_at dksX4_ahead_2 4 rfl rfl)
theorem dX4_ahead_52 : decode cX4_ahead 52 = .ok (.invokevirtual 403, 3) := dk_182 1 147 (dk_at dksX4_ahead_2 5 rfl rfl)
theorem dX4_ahead_55 : decode cX4_ahead 55 = .ok (.iload_n 3, 1) := dk_29 (dk_at dksX4_ahead_2 8 rfl rfl)
theorem dX4_ahead_56 : decode cX4_ahead 56 = .ok (.ireturn, 1) := dk_172 (dk_at dksX4_ahead_2 9 rfl rfl)
abbrev cX4_keeps : ByteArray := prog_20_method_83_code
def yX4_keeps : MethodName := ⟨RX4, "keeps", "()V"⟩
def dkwX4_keeps_1 : List UInt8 := [167, 255, 235, 177]
abbrev dktX4_keeps_1 : List UInt8 := dkwX4_keeps_1 ++ []
def dkwX4_keeps_0 : List UInt8 := [3, 60, 27, 16, 34, 162, 0, 21, 42, 180, 0, 59, 27, 42, 180, 0, 39, 27, 46, 79, 132, 1, 1]
abbrev dktX4_keeps_0 : List UInt8 := dkwX4_keeps_0 ++ dktX4_keeps_1
theorem dksX4_keeps_0 : cX4_keeps.data.toList.drop 0 = dktX4_keeps_0 := by decide +kernel
theorem dksX4_keeps_1 : cX4_keeps.data.toList.drop 23 = dktX4_keeps_1 := dk_seg dksX4_keeps_0 23 rfl rfl
theorem dX4_keeps_0 : decode cX4_keeps 0 = .ok (.iconst 0, 1) := dk_3 (dk_at dksX4_keeps_0 0 rfl rfl)
theorem dX4_keeps_1 : decode cX4_keeps 1 = .ok (.istore_n 1, 1) := dk_60 (dk_at dksX4_keeps_0 1 rfl rfl)
theorem dX4_keeps_2 : decode cX4_keeps 2 = .ok (.iload_n 1, 1) := dk_27 (dk_at dksX4_keeps_0 2 rfl rfl)
theorem dX4_keeps_3 : decode cX4_keeps 3 = .ok (.bipush 34, 2) := dk_16 34 (dk_at dksX4_keeps_0 3 rfl rfl)
theorem dX4_keeps_5 : decode cX4_keeps 5 = .ok (.if_icmp .ge 21, 3) := dk_162 0 21 (dk_at dksX4_keeps_0 5 rfl rfl)
theorem dX4_keeps_8 : decode cX4_keeps 8 = .ok (.aload_n 0, 1) := dk_42 (dk_at dksX4_keeps_0 8 rfl rfl)
theorem dX4_keeps_9 : decode cX4_keeps 9 = .ok (.getfield 59, 3) := dk_180 0 59 (dk_at dksX4_keeps_0 9 rfl rfl)
theorem dX4_keeps_12 : decode cX4_keeps 12 = .ok (.iload_n 1, 1) := dk_27 (dk_at dksX4_keeps_0 12 rfl rfl)
theorem dX4_keeps_13 : decode cX4_keeps 13 = .ok (.aload_n 0, 1) := dk_42 (dk_at dksX4_keeps_0 13 rfl rfl)
theorem dX4_keeps_14 : decode cX4_keeps 14 = .ok (.getfield 39, 3) := dk_180 0 39 (dk_at dksX4_keeps_0 14 rfl rfl)
theorem dX4_keeps_17 : decode cX4_keeps 17 = .ok (.iload_n 1, 1) := dk_27 (dk_at dksX4_keeps_0 17 rfl rfl)
theorem dX4_keeps_18 : decode cX4_keeps 18 = .ok (.iaload, 1) := dk_46 (dk_at dksX4_keeps_0 18 rfl rfl)
theorem dX4_keeps_19 : decode cX4_keeps 19 = .ok (.iastore, 1) := dk_79 (dk_at dksX4_keeps_0 19 rfl rfl)
theorem dX4_keeps_20 : decode cX4_keeps 20 = .ok (.iinc 1 1, 3) := dk_132 1 1 (dk_at dksX4_keeps_0 20 rfl rfl)
theorem dX4_keeps_23 : decode cX4_keeps 23 = .ok (.goto (-21), 3) := dk_167 255 235 (dk_at dksX4_keeps_1 0 rfl rfl)
theorem dX4_keeps_26 : decode cX4_keeps 26 = .ok (.return_, 1) := dk_177 (dk_at dksX4_keeps_1 3 rfl rfl)
abbrev cX4_laysBack : ByteArray := prog_20_method_84_code
def yX4_laysBack : MethodName := ⟨RX4, "laysBack", "()V"⟩
def dkwX4_laysBack_1 : List UInt8 := [167, 255, 235, 177]
abbrev dktX4_laysBack_1 : List UInt8 := dkwX4_laysBack_1 ++ []
def dkwX4_laysBack_0 : List UInt8 := [3, 60, 27, 16, 34, 162, 0, 21, 42, 180, 0, 39, 27, 42, 180, 0, 59, 27, 46, 79, 132, 1, 1]
abbrev dktX4_laysBack_0 : List UInt8 := dkwX4_laysBack_0 ++ dktX4_laysBack_1
theorem dksX4_laysBack_0 : cX4_laysBack.data.toList.drop 0 = dktX4_laysBack_0 := by decide +kernel
theorem dksX4_laysBack_1 : cX4_laysBack.data.toList.drop 23 = dktX4_laysBack_1 := dk_seg dksX4_laysBack_0 23 rfl rfl
theorem dX4_laysBack_0 : decode cX4_laysBack 0 = .ok (.iconst 0, 1) := dk_3 (dk_at dksX4_laysBack_0 0 rfl rfl)
theorem dX4_laysBack_1 : decode cX4_laysBack 1 = .ok (.istore_n 1, 1) := dk_60 (dk_at dksX4_laysBack_0 1 rfl rfl)
theorem dX4_laysBack_2 : decode cX4_laysBack 2 = .ok (.iload_n 1, 1) := dk_27 (dk_at dksX4_laysBack_0 2 rfl rfl)
theorem dX4_laysBack_3 : decode cX4_laysBack 3 = .ok (.bipush 34, 2) := dk_16 34 (dk_at dksX4_laysBack_0 3 rfl rfl)
theorem dX4_laysBack_5 : decode cX4_laysBack 5 = .ok (.if_icmp .ge 21, 3) := dk_162 0 21 (dk_at dksX4_laysBack_0 5 rfl rfl)
theorem dX4_laysBack_8 : decode cX4_laysBack 8 = .ok (.aload_n 0, 1) := dk_42 (dk_at dksX4_laysBack_0 8 rfl rfl)
theorem dX4_laysBack_9 : decode cX4_laysBack 9 = .ok (.getfield 39, 3) := dk_180 0 39 (dk_at dksX4_laysBack_0 9 rfl rfl)
theorem dX4_laysBack_12 : decode cX4_laysBack 12 = .ok (.iload_n 1, 1) := dk_27 (dk_at dksX4_laysBack_0 12 rfl rfl)
theorem dX4_laysBack_13 : decode cX4_laysBack 13 = .ok (.aload_n 0, 1) := dk_42 (dk_at dksX4_laysBack_0 13 rfl rfl)
theorem dX4_laysBack_14 : decode cX4_laysBack 14 = .ok (.getfield 59, 3) := dk_180 0 59 (dk_at dksX4_laysBack_0 14 rfl rfl)
theorem dX4_laysBack_17 : decode cX4_laysBack 17 = .ok (.iload_n 1, 1) := dk_27 (dk_at dksX4_laysBack_0 17 rfl rfl)
theorem dX4_laysBack_18 : decode cX4_laysBack 18 = .ok (.iaload, 1) := dk_46 (dk_at dksX4_laysBack_0 18 rfl rfl)
theorem dX4_laysBack_19 : decode cX4_laysBack 19 = .ok (.iastore, 1) := dk_79 (dk_at dksX4_laysBack_0 19 rfl rfl)
theorem dX4_laysBack_20 : decode cX4_laysBack 20 = .ok (.iinc 1 1, 3) := dk_132 1 1 (dk_at dksX4_laysBack_0 20 rfl rfl)
theorem dX4_laysBack_23 : decode cX4_laysBack 23 = .ok (.goto (-21), 3) := dk_167 255 235 (dk_at dksX4_laysBack_1 0 rfl rfl)
theorem dX4_laysBack_26 : decode cX4_laysBack 26 = .ok (.return_, 1) := dk_177 (dk_at dksX4_laysBack_1 3 rfl rfl)
abbrev cX4_comes : ByteArray := prog_20_method_86_code
def yX4_comes : MethodName := ⟨RX4, "comes", "(I)I"⟩
def dkwX4_comes_2 : List UInt8 := [180, 0, 39, 6, 46, 61, 42, 182, 1, 139, 87, 132, 3, 1, 167, 255, 215, 42, 182, 1, 147, 28, 172]
abbrev dktX4_comes_2 : List UInt8 := dkwX4_comes_2 ++ []
def dkwX4_comes_1 : List UInt8 := [163, 0, 40, 28, 156, 0, 36, 42, 27, 3, 182, 1, 23, 42, 27, 4, 182, 1, 23, 160, 0, 10, 42]
abbrev dktX4_comes_1 : List UInt8 := dkwX4_comes_1 ++ dktX4_comes_2
def dkwX4_comes_0 : List UInt8 := [42, 27, 182, 1, 72, 154, 0, 5, 2, 172, 16, 254, 61, 42, 182, 1, 144, 3, 62, 29, 17, 0, 200]
abbrev dktX4_comes_0 : List UInt8 := dkwX4_comes_0 ++ dktX4_comes_1
theorem dksX4_comes_0 : cX4_comes.data.toList.drop 0 = dktX4_comes_0 := by decide +kernel
theorem dksX4_comes_1 : cX4_comes.data.toList.drop 23 = dktX4_comes_1 := dk_seg dksX4_comes_0 23 rfl rfl
theorem dksX4_comes_2 : cX4_comes.data.toList.drop 46 = dktX4_comes_2 := dk_seg dksX4_comes_1 23 rfl rfl
theorem dX4_comes_0 : decode cX4_comes 0 = .ok (.aload_n 0, 1) := dk_42 (dk_at dksX4_comes_0 0 rfl rfl)
theorem dX4_comes_1 : decode cX4_comes 1 = .ok (.iload_n 1, 1) := dk_27 (dk_at dksX4_comes_0 1 rfl rfl)
theorem dX4_comes_2 : decode cX4_comes 2 = .ok (.invokevirtual 328, 3) := dk_182 1 72 (dk_at dksX4_comes_0 2 rfl rfl)
theorem dX4_comes_5 : decode cX4_comes 5 = .ok (.ifCond .ne 5, 3) := dk_154 0 5 (dk_at dksX4_comes_0 5 rfl rfl)
theorem dX4_comes_8 : decode cX4_comes 8 = .ok (.iconst (-1), 1) := dk_2 (dk_at dksX4_comes_0 8 rfl rfl)
theorem dX4_comes_9 : decode cX4_comes 9 = .ok (.ireturn, 1) := dk_172 (dk_at dksX4_comes_0 9 rfl rfl)
theorem dX4_comes_10 : decode cX4_comes 10 = .ok (.bipush (-2), 2) := dk_16 254 (dk_at dksX4_comes_0 10 rfl rfl)
theorem dX4_comes_12 : decode cX4_comes 12 = .ok (.istore_n 2, 1) := dk_61 (dk_at dksX4_comes_0 12 rfl rfl)
theorem dX4_comes_13 : decode cX4_comes 13 = .ok (.aload_n 0, 1) := dk_42 (dk_at dksX4_comes_0 13 rfl rfl)
theorem dX4_comes_14 : decode cX4_comes 14 = .ok (.invokevirtual 400, 3) := dk_182 1 144 (dk_at dksX4_comes_0 14 rfl rfl)
theorem dX4_comes_17 : decode cX4_comes 17 = .ok (.iconst 0, 1) := dk_3 (dk_at dksX4_comes_0 17 rfl rfl)
theorem dX4_comes_18 : decode cX4_comes 18 = .ok (.istore_n 3, 1) := dk_62 (dk_at dksX4_comes_0 18 rfl rfl)
theorem dX4_comes_19 : decode cX4_comes 19 = .ok (.iload_n 3, 1) := dk_29 (dk_at dksX4_comes_0 19 rfl rfl)
theorem dX4_comes_20 : decode cX4_comes 20 = .ok (.sipush 200, 3) := dk_17 0 200 (dk_at dksX4_comes_0 20 rfl rfl)
theorem dX4_comes_23 : decode cX4_comes 23 = .ok (.if_icmp .gt 40, 3) := dk_163 0 40 (dk_at dksX4_comes_1 0 rfl rfl)
theorem dX4_comes_26 : decode cX4_comes 26 = .ok (.iload_n 2, 1) := dk_28 (dk_at dksX4_comes_1 3 rfl rfl)
theorem dX4_comes_27 : decode cX4_comes 27 = .ok (.ifCond .ge 36, 3) := dk_156 0 36 (dk_at dksX4_comes_1 4 rfl rfl)
theorem dX4_comes_30 : decode cX4_comes 30 = .ok (.aload_n 0, 1) := dk_42 (dk_at dksX4_comes_1 7 rfl rfl)
theorem dX4_comes_31 : decode cX4_comes 31 = .ok (.iload_n 1, 1) := dk_27 (dk_at dksX4_comes_1 8 rfl rfl)
theorem dX4_comes_32 : decode cX4_comes 32 = .ok (.iconst 0, 1) := dk_3 (dk_at dksX4_comes_1 9 rfl rfl)
theorem dX4_comes_33 : decode cX4_comes 33 = .ok (.invokevirtual 279, 3) := dk_182 1 23 (dk_at dksX4_comes_1 10 rfl rfl)
theorem dX4_comes_36 : decode cX4_comes 36 = .ok (.aload_n 0, 1) := dk_42 (dk_at dksX4_comes_1 13 rfl rfl)
theorem dX4_comes_37 : decode cX4_comes 37 = .ok (.iload_n 1, 1) := dk_27 (dk_at dksX4_comes_1 14 rfl rfl)
theorem dX4_comes_38 : decode cX4_comes 38 = .ok (.iconst 1, 1) := dk_4 (dk_at dksX4_comes_1 15 rfl rfl)
theorem dX4_comes_39 : decode cX4_comes 39 = .ok (.invokevirtual 279, 3) := dk_182 1 23 (dk_at dksX4_comes_1 16 rfl rfl)
theorem dX4_comes_42 : decode cX4_comes 42 = .ok (.if_icmp .ne 10, 3) := dk_160 0 10 (dk_at dksX4_comes_1 19 rfl rfl)
theorem dX4_comes_45 : decode cX4_comes 45 = .ok (.aload_n 0, 1) := dk_42 (dk_at dksX4_comes_1 22 rfl rfl)
theorem dX4_comes_46 : decode cX4_comes 46 = .ok (.getfield 39, 3) := dk_180 0 39 (dk_at dksX4_comes_2 0 rfl rfl)
theorem dX4_comes_49 : decode cX4_comes 49 = .ok (.iconst 3, 1) := dk_6 (dk_at dksX4_comes_2 3 rfl rfl)
theorem dX4_comes_50 : decode cX4_comes 50 = .ok (.iaload, 1) := dk_46 (dk_at dksX4_comes_2 4 rfl rfl)
theorem dX4_comes_51 : decode cX4_comes 51 = .ok (.istore_n 2, 1) := dk_61 (dk_at dksX4_comes_2 5 rfl rfl)
theorem dX4_comes_52 : decode cX4_comes 52 = .ok (.aload_n 0, 1) := dk_42 (dk_at dksX4_comes_2 6 rfl rfl)
theorem dX4_comes_53 : decode cX4_comes 53 = .ok (.invokevirtual 395, 3) := dk_182 1 139 (dk_at dksX4_comes_2 7 rfl rfl)
theorem dX4_comes_56 : decode cX4_comes 56 = .ok (.pop, 1) := dk_87 (dk_at dksX4_comes_2 10 rfl rfl)
theorem dX4_comes_57 : decode cX4_comes 57 = .ok (.iinc 3 1, 3) := dk_132 3 1 (dk_at dksX4_comes_2 11 rfl rfl)
theorem dX4_comes_60 : decode cX4_comes 60 = .ok (.goto (-41), 3) := dk_167 255 215 (dk_at dksX4_comes_2 14 rfl rfl)
theorem dX4_comes_63 : decode cX4_comes 63 = .ok (.aload_n 0, 1) := dk_42 (dk_at dksX4_comes_2 17 rfl rfl)
theorem dX4_comes_64 : decode cX4_comes 64 = .ok (.invokevirtual 403, 3) := dk_182 1 147 (dk_at dksX4_comes_2 18 rfl rfl)
theorem dX4_comes_67 : decode cX4_comes 67 = .ok (.iload_n 2, 1) := dk_28 (dk_at dksX4_comes_2 21 rfl rfl)
theorem dX4_comes_68 : decode cX4_comes 68 = .ok (.ireturn, 1) := dk_172 (dk_at dksX4_comes_2 22 rfl rfl)
abbrev cX4_fewest : ByteArray := prog_20_method_98_code
def yX4_fewest : MethodName := ⟨RX4, "fewest", "(I)I"⟩
def dkwX4_fewest_1 : List UInt8 := [180, 0, 63, 42, 182, 1, 187, 46, 61, 28, 156, 0, 8, 16, 254, 167, 0, 4, 28, 172]
abbrev dktX4_fewest_1 : List UInt8 := dkwX4_fewest_1 ++ []
def dkwX4_fewest_0 : List UInt8 := [42, 27, 182, 1, 181, 154, 0, 5, 2, 172, 42, 27, 42, 180, 0, 39, 5, 46, 2, 182, 1, 184, 42]
abbrev dktX4_fewest_0 : List UInt8 := dkwX4_fewest_0 ++ dktX4_fewest_1
theorem dksX4_fewest_0 : cX4_fewest.data.toList.drop 0 = dktX4_fewest_0 := by decide +kernel
theorem dksX4_fewest_1 : cX4_fewest.data.toList.drop 23 = dktX4_fewest_1 := dk_seg dksX4_fewest_0 23 rfl rfl
theorem dX4_fewest_0 : decode cX4_fewest 0 = .ok (.aload_n 0, 1) := dk_42 (dk_at dksX4_fewest_0 0 rfl rfl)
theorem dX4_fewest_1 : decode cX4_fewest 1 = .ok (.iload_n 1, 1) := dk_27 (dk_at dksX4_fewest_0 1 rfl rfl)
theorem dX4_fewest_2 : decode cX4_fewest 2 = .ok (.invokevirtual 437, 3) := dk_182 1 181 (dk_at dksX4_fewest_0 2 rfl rfl)
theorem dX4_fewest_5 : decode cX4_fewest 5 = .ok (.ifCond .ne 5, 3) := dk_154 0 5 (dk_at dksX4_fewest_0 5 rfl rfl)
theorem dX4_fewest_8 : decode cX4_fewest 8 = .ok (.iconst (-1), 1) := dk_2 (dk_at dksX4_fewest_0 8 rfl rfl)
theorem dX4_fewest_9 : decode cX4_fewest 9 = .ok (.ireturn, 1) := dk_172 (dk_at dksX4_fewest_0 9 rfl rfl)
theorem dX4_fewest_10 : decode cX4_fewest 10 = .ok (.aload_n 0, 1) := dk_42 (dk_at dksX4_fewest_0 10 rfl rfl)
theorem dX4_fewest_11 : decode cX4_fewest 11 = .ok (.iload_n 1, 1) := dk_27 (dk_at dksX4_fewest_0 11 rfl rfl)
theorem dX4_fewest_12 : decode cX4_fewest 12 = .ok (.aload_n 0, 1) := dk_42 (dk_at dksX4_fewest_0 12 rfl rfl)
theorem dX4_fewest_13 : decode cX4_fewest 13 = .ok (.getfield 39, 3) := dk_180 0 39 (dk_at dksX4_fewest_0 13 rfl rfl)
theorem dX4_fewest_16 : decode cX4_fewest 16 = .ok (.iconst 2, 1) := dk_5 (dk_at dksX4_fewest_0 16 rfl rfl)
theorem dX4_fewest_17 : decode cX4_fewest 17 = .ok (.iaload, 1) := dk_46 (dk_at dksX4_fewest_0 17 rfl rfl)
theorem dX4_fewest_18 : decode cX4_fewest 18 = .ok (.iconst (-1), 1) := dk_2 (dk_at dksX4_fewest_0 18 rfl rfl)
theorem dX4_fewest_19 : decode cX4_fewest 19 = .ok (.invokevirtual 440, 3) := dk_182 1 184 (dk_at dksX4_fewest_0 19 rfl rfl)
theorem dX4_fewest_22 : decode cX4_fewest 22 = .ok (.aload_n 0, 1) := dk_42 (dk_at dksX4_fewest_0 22 rfl rfl)
theorem dX4_fewest_23 : decode cX4_fewest 23 = .ok (.getfield 63, 3) := dk_180 0 63 (dk_at dksX4_fewest_1 0 rfl rfl)
theorem dX4_fewest_26 : decode cX4_fewest 26 = .ok (.aload_n 0, 1) := dk_42 (dk_at dksX4_fewest_1 3 rfl rfl)
theorem dX4_fewest_27 : decode cX4_fewest 27 = .ok (.invokevirtual 443, 3) := dk_182 1 187 (dk_at dksX4_fewest_1 4 rfl rfl)
theorem dX4_fewest_30 : decode cX4_fewest 30 = .ok (.iaload, 1) := dk_46 (dk_at dksX4_fewest_1 7 rfl rfl)
theorem dX4_fewest_31 : decode cX4_fewest 31 = .ok (.istore_n 2, 1) := dk_61 (dk_at dksX4_fewest_1 8 rfl rfl)
theorem dX4_fewest_32 : decode cX4_fewest 32 = .ok (.iload_n 2, 1) := dk_28 (dk_at dksX4_fewest_1 9 rfl rfl)
theorem dX4_fewest_33 : decode cX4_fewest 33 = .ok (.ifCond .ge 8, 3) := dk_156 0 8 (dk_at dksX4_fewest_1 10 rfl rfl)
theorem dX4_fewest_36 : decode cX4_fewest 36 = .ok (.bipush (-2), 2) := dk_16 254 (dk_at dksX4_fewest_1 13 rfl rfl)
theorem dX4_fewest_38 : decode cX4_fewest 38 = .ok (.goto 4, 3) := dk_167 0 4 (dk_at dksX4_fewest_1 15 rfl rfl)
theorem dX4_fewest_41 : decode cX4_fewest 41 = .ok (.iload_n 2, 1) := dk_28 (dk_at dksX4_fewest_1 18 rfl rfl)
theorem dX4_fewest_42 : decode cX4_fewest 42 = .ok (.ireturn, 1) := dk_172 (dk_at dksX4_fewest_1 19 rfl rfl)
abbrev cX4_isSet : ByteArray := prog_20_method_97_code
def yX4_isSet : MethodName := ⟨RX4, "isSet", "(I)Z"⟩
def dkwX4_isSet_1 : List UInt8 := [167, 0, 4, 3, 172]
abbrev dktX4_isSet_1 : List UInt8 := dkwX4_isSet_1 ++ []
def dkwX4_isSet_0 : List UInt8 := [42, 182, 1, 133, 153, 0, 23, 27, 155, 0, 19, 27, 4, 42, 180, 0, 39, 5, 46, 120, 162, 0, 7, 4]
abbrev dktX4_isSet_0 : List UInt8 := dkwX4_isSet_0 ++ dktX4_isSet_1
theorem dksX4_isSet_0 : cX4_isSet.data.toList.drop 0 = dktX4_isSet_0 := by decide +kernel
theorem dksX4_isSet_1 : cX4_isSet.data.toList.drop 24 = dktX4_isSet_1 := dk_seg dksX4_isSet_0 24 rfl rfl
theorem dX4_isSet_0 : decode cX4_isSet 0 = .ok (.aload_n 0, 1) := dk_42 (dk_at dksX4_isSet_0 0 rfl rfl)
theorem dX4_isSet_1 : decode cX4_isSet 1 = .ok (.invokevirtual 389, 3) := dk_182 1 133 (dk_at dksX4_isSet_0 1 rfl rfl)
theorem dX4_isSet_4 : decode cX4_isSet 4 = .ok (.ifCond .eq 23, 3) := dk_153 0 23 (dk_at dksX4_isSet_0 4 rfl rfl)
theorem dX4_isSet_7 : decode cX4_isSet 7 = .ok (.iload_n 1, 1) := dk_27 (dk_at dksX4_isSet_0 7 rfl rfl)
theorem dX4_isSet_8 : decode cX4_isSet 8 = .ok (.ifCond .lt 19, 3) := dk_155 0 19 (dk_at dksX4_isSet_0 8 rfl rfl)
theorem dX4_isSet_11 : decode cX4_isSet 11 = .ok (.iload_n 1, 1) := dk_27 (dk_at dksX4_isSet_0 11 rfl rfl)
theorem dX4_isSet_12 : decode cX4_isSet 12 = .ok (.iconst 1, 1) := dk_4 (dk_at dksX4_isSet_0 12 rfl rfl)
theorem dX4_isSet_13 : decode cX4_isSet 13 = .ok (.aload_n 0, 1) := dk_42 (dk_at dksX4_isSet_0 13 rfl rfl)
theorem dX4_isSet_14 : decode cX4_isSet 14 = .ok (.getfield 39, 3) := dk_180 0 39 (dk_at dksX4_isSet_0 14 rfl rfl)
theorem dX4_isSet_17 : decode cX4_isSet 17 = .ok (.iconst 2, 1) := dk_5 (dk_at dksX4_isSet_0 17 rfl rfl)
theorem dX4_isSet_18 : decode cX4_isSet 18 = .ok (.iaload, 1) := dk_46 (dk_at dksX4_isSet_0 18 rfl rfl)
theorem dX4_isSet_19 : decode cX4_isSet 19 = .ok (.ishl, 1) := dk_120 (dk_at dksX4_isSet_0 19 rfl rfl)
theorem dX4_isSet_20 : decode cX4_isSet 20 = .ok (.if_icmp .ge 7, 3) := dk_162 0 7 (dk_at dksX4_isSet_0 20 rfl rfl)
theorem dX4_isSet_23 : decode cX4_isSet 23 = .ok (.iconst 1, 1) := dk_4 (dk_at dksX4_isSet_0 23 rfl rfl)
theorem dX4_isSet_24 : decode cX4_isSet 24 = .ok (.goto 4, 3) := dk_167 0 4 (dk_at dksX4_isSet_1 0 rfl rfl)
theorem dX4_isSet_27 : decode cX4_isSet 27 = .ok (.iconst 0, 1) := dk_3 (dk_at dksX4_isSet_1 3 rfl rfl)
theorem dX4_isSet_28 : decode cX4_isSet 28 = .ok (.ireturn, 1) := dk_172 (dk_at dksX4_isSet_1 4 rfl rfl)
abbrev cX4_fillsPassings : ByteArray := prog_20_method_96_code
def yX4_fillsPassings : MethodName := ⟨RX4, "fillsPassings", "(III)V"⟩
def dkwX4_fillsPassings_2 : List UInt8 := [177]
abbrev dktX4_fillsPassings_2 : List UInt8 := dkwX4_fillsPassings_2 ++ []
def dkwX4_fillsPassings_1 : List UInt8 := [182, 1, 175, 153, 0, 10, 42, 21, 4, 3, 182, 1, 166, 132, 4, 1, 167, 255, 226, 42, 29, 182, 1, 178]
abbrev dktX4_fillsPassings_1 : List UInt8 := dkwX4_fillsPassings_1 ++ dktX4_fillsPassings_2
def dkwX4_fillsPassings_0 : List UInt8 := [42, 28, 182, 1, 172, 3, 54, 4, 21, 4, 42, 28, 182, 1, 150, 162, 0, 26, 42, 21, 4, 27]
abbrev dktX4_fillsPassings_0 : List UInt8 := dkwX4_fillsPassings_0 ++ dktX4_fillsPassings_1
theorem dksX4_fillsPassings_0 : cX4_fillsPassings.data.toList.drop 0 = dktX4_fillsPassings_0 := by decide +kernel
theorem dksX4_fillsPassings_1 : cX4_fillsPassings.data.toList.drop 22 = dktX4_fillsPassings_1 := dk_seg dksX4_fillsPassings_0 22 rfl rfl
theorem dksX4_fillsPassings_2 : cX4_fillsPassings.data.toList.drop 46 = dktX4_fillsPassings_2 := dk_seg dksX4_fillsPassings_1 24 rfl rfl
theorem dX4_fillsPassings_0 : decode cX4_fillsPassings 0 = .ok (.aload_n 0, 1) := dk_42 (dk_at dksX4_fillsPassings_0 0 rfl rfl)
theorem dX4_fillsPassings_1 : decode cX4_fillsPassings 1 = .ok (.iload_n 2, 1) := dk_28 (dk_at dksX4_fillsPassings_0 1 rfl rfl)
theorem dX4_fillsPassings_2 : decode cX4_fillsPassings 2 = .ok (.invokevirtual 428, 3) := dk_182 1 172 (dk_at dksX4_fillsPassings_0 2 rfl rfl)
theorem dX4_fillsPassings_5 : decode cX4_fillsPassings 5 = .ok (.iconst 0, 1) := dk_3 (dk_at dksX4_fillsPassings_0 5 rfl rfl)
theorem dX4_fillsPassings_6 : decode cX4_fillsPassings 6 = .ok (.istore 4, 2) := dk_54 4 (dk_at dksX4_fillsPassings_0 6 rfl rfl)
theorem dX4_fillsPassings_8 : decode cX4_fillsPassings 8 = .ok (.iload 4, 2) := dk_21 4 (dk_at dksX4_fillsPassings_0 8 rfl rfl)
theorem dX4_fillsPassings_10 : decode cX4_fillsPassings 10 = .ok (.aload_n 0, 1) := dk_42 (dk_at dksX4_fillsPassings_0 10 rfl rfl)
theorem dX4_fillsPassings_11 : decode cX4_fillsPassings 11 = .ok (.iload_n 2, 1) := dk_28 (dk_at dksX4_fillsPassings_0 11 rfl rfl)
theorem dX4_fillsPassings_12 : decode cX4_fillsPassings 12 = .ok (.invokevirtual 406, 3) := dk_182 1 150 (dk_at dksX4_fillsPassings_0 12 rfl rfl)
theorem dX4_fillsPassings_15 : decode cX4_fillsPassings 15 = .ok (.if_icmp .ge 26, 3) := dk_162 0 26 (dk_at dksX4_fillsPassings_0 15 rfl rfl)
theorem dX4_fillsPassings_18 : decode cX4_fillsPassings 18 = .ok (.aload_n 0, 1) := dk_42 (dk_at dksX4_fillsPassings_0 18 rfl rfl)
theorem dX4_fillsPassings_19 : decode cX4_fillsPassings 19 = .ok (.iload 4, 2) := dk_21 4 (dk_at dksX4_fillsPassings_0 19 rfl rfl)
theorem dX4_fillsPassings_21 : decode cX4_fillsPassings 21 = .ok (.iload_n 1, 1) := dk_27 (dk_at dksX4_fillsPassings_0 21 rfl rfl)
theorem dX4_fillsPassings_22 : decode cX4_fillsPassings 22 = .ok (.invokevirtual 431, 3) := dk_182 1 175 (dk_at dksX4_fillsPassings_1 0 rfl rfl)
theorem dX4_fillsPassings_25 : decode cX4_fillsPassings 25 = .ok (.ifCond .eq 10, 3) := dk_153 0 10 (dk_at dksX4_fillsPassings_1 3 rfl rfl)
theorem dX4_fillsPassings_28 : decode cX4_fillsPassings 28 = .ok (.aload_n 0, 1) := dk_42 (dk_at dksX4_fillsPassings_1 6 rfl rfl)
theorem dX4_fillsPassings_29 : decode cX4_fillsPassings 29 = .ok (.iload 4, 2) := dk_21 4 (dk_at dksX4_fillsPassings_1 7 rfl rfl)
theorem dX4_fillsPassings_31 : decode cX4_fillsPassings 31 = .ok (.iconst 0, 1) := dk_3 (dk_at dksX4_fillsPassings_1 9 rfl rfl)
theorem dX4_fillsPassings_32 : decode cX4_fillsPassings 32 = .ok (.invokevirtual 422, 3) := dk_182 1 166 (dk_at dksX4_fillsPassings_1 10 rfl rfl)
theorem dX4_fillsPassings_35 : decode cX4_fillsPassings 35 = .ok (.iinc 4 1, 3) := dk_132 4 1 (dk_at dksX4_fillsPassings_1 13 rfl rfl)
theorem dX4_fillsPassings_38 : decode cX4_fillsPassings 38 = .ok (.goto (-30), 3) := dk_167 255 226 (dk_at dksX4_fillsPassings_1 16 rfl rfl)
theorem dX4_fillsPassings_41 : decode cX4_fillsPassings 41 = .ok (.aload_n 0, 1) := dk_42 (dk_at dksX4_fillsPassings_1 19 rfl rfl)
theorem dX4_fillsPassings_42 : decode cX4_fillsPassings 42 = .ok (.iload_n 3, 1) := dk_29 (dk_at dksX4_fillsPassings_1 20 rfl rfl)
theorem dX4_fillsPassings_43 : decode cX4_fillsPassings 43 = .ok (.invokevirtual 434, 3) := dk_182 1 178 (dk_at dksX4_fillsPassings_1 21 rfl rfl)
theorem dX4_fillsPassings_46 : decode cX4_fillsPassings 46 = .ok (.return_, 1) := dk_177 (dk_at dksX4_fillsPassings_2 0 rfl rfl)
abbrev cX4_clears : ByteArray := prog_20_method_95_code
def yX4_clears : MethodName := ⟨RX4, "clears", "(I)V"⟩
def dkwX4_clears_1 : List UInt8 := [180, 0, 63, 28, 2, 79, 132, 2, 1, 167, 255, 237, 177]
abbrev dktX4_clears_1 : List UInt8 := dkwX4_clears_1 ++ []
def dkwX4_clears_0 : List UInt8 := [42, 27, 181, 1, 159, 42, 3, 181, 1, 156, 3, 61, 28, 42, 27, 182, 1, 150, 162, 0, 16, 42]
abbrev dktX4_clears_0 : List UInt8 := dkwX4_clears_0 ++ dktX4_clears_1
theorem dksX4_clears_0 : cX4_clears.data.toList.drop 0 = dktX4_clears_0 := by decide +kernel
theorem dksX4_clears_1 : cX4_clears.data.toList.drop 22 = dktX4_clears_1 := dk_seg dksX4_clears_0 22 rfl rfl
theorem dX4_clears_0 : decode cX4_clears 0 = .ok (.aload_n 0, 1) := dk_42 (dk_at dksX4_clears_0 0 rfl rfl)
theorem dX4_clears_1 : decode cX4_clears 1 = .ok (.iload_n 1, 1) := dk_27 (dk_at dksX4_clears_0 1 rfl rfl)
theorem dX4_clears_2 : decode cX4_clears 2 = .ok (.putfield 415, 3) := dk_181 1 159 (dk_at dksX4_clears_0 2 rfl rfl)
theorem dX4_clears_5 : decode cX4_clears 5 = .ok (.aload_n 0, 1) := dk_42 (dk_at dksX4_clears_0 5 rfl rfl)
theorem dX4_clears_6 : decode cX4_clears 6 = .ok (.iconst 0, 1) := dk_3 (dk_at dksX4_clears_0 6 rfl rfl)
theorem dX4_clears_7 : decode cX4_clears 7 = .ok (.putfield 412, 3) := dk_181 1 156 (dk_at dksX4_clears_0 7 rfl rfl)
theorem dX4_clears_10 : decode cX4_clears 10 = .ok (.iconst 0, 1) := dk_3 (dk_at dksX4_clears_0 10 rfl rfl)
theorem dX4_clears_11 : decode cX4_clears 11 = .ok (.istore_n 2, 1) := dk_61 (dk_at dksX4_clears_0 11 rfl rfl)
theorem dX4_clears_12 : decode cX4_clears 12 = .ok (.iload_n 2, 1) := dk_28 (dk_at dksX4_clears_0 12 rfl rfl)
theorem dX4_clears_13 : decode cX4_clears 13 = .ok (.aload_n 0, 1) := dk_42 (dk_at dksX4_clears_0 13 rfl rfl)
theorem dX4_clears_14 : decode cX4_clears 14 = .ok (.iload_n 1, 1) := dk_27 (dk_at dksX4_clears_0 14 rfl rfl)
theorem dX4_clears_15 : decode cX4_clears 15 = .ok (.invokevirtual 406, 3) := dk_182 1 150 (dk_at dksX4_clears_0 15 rfl rfl)
theorem dX4_clears_18 : decode cX4_clears 18 = .ok (.if_icmp .ge 16, 3) := dk_162 0 16 (dk_at dksX4_clears_0 18 rfl rfl)
theorem dX4_clears_21 : decode cX4_clears 21 = .ok (.aload_n 0, 1) := dk_42 (dk_at dksX4_clears_0 21 rfl rfl)
theorem dX4_clears_22 : decode cX4_clears 22 = .ok (.getfield 63, 3) := dk_180 0 63 (dk_at dksX4_clears_1 0 rfl rfl)
theorem dX4_clears_25 : decode cX4_clears 25 = .ok (.iload_n 2, 1) := dk_28 (dk_at dksX4_clears_1 3 rfl rfl)
theorem dX4_clears_26 : decode cX4_clears 26 = .ok (.iconst (-1), 1) := dk_2 (dk_at dksX4_clears_1 4 rfl rfl)
theorem dX4_clears_27 : decode cX4_clears 27 = .ok (.iastore, 1) := dk_79 (dk_at dksX4_clears_1 5 rfl rfl)
theorem dX4_clears_28 : decode cX4_clears 28 = .ok (.iinc 2 1, 3) := dk_132 2 1 (dk_at dksX4_clears_1 6 rfl rfl)
theorem dX4_clears_31 : decode cX4_clears 31 = .ok (.goto (-19), 3) := dk_167 255 237 (dk_at dksX4_clears_1 9 rfl rfl)
theorem dX4_clears_34 : decode cX4_clears 34 = .ok (.return_, 1) := dk_177 (dk_at dksX4_clears_1 12 rfl rfl)
abbrev cX4_power : ByteArray := prog_20_method_87_code
def yX4_power : MethodName := ⟨RX4, "power", "(I)I"⟩
def dkwX4_power_1 : List UInt8 := [28, 172]
abbrev dktX4_power_1 : List UInt8 := dkwX4_power_1 ++ []
def dkwX4_power_0 : List UInt8 := [4, 61, 3, 62, 29, 27, 162, 0, 18, 28, 42, 180, 0, 39, 3, 46, 104, 61, 132, 3, 1, 167, 255, 239]
abbrev dktX4_power_0 : List UInt8 := dkwX4_power_0 ++ dktX4_power_1
theorem dksX4_power_0 : cX4_power.data.toList.drop 0 = dktX4_power_0 := by decide +kernel
theorem dksX4_power_1 : cX4_power.data.toList.drop 24 = dktX4_power_1 := dk_seg dksX4_power_0 24 rfl rfl
theorem dX4_power_0 : decode cX4_power 0 = .ok (.iconst 1, 1) := dk_4 (dk_at dksX4_power_0 0 rfl rfl)
theorem dX4_power_1 : decode cX4_power 1 = .ok (.istore_n 2, 1) := dk_61 (dk_at dksX4_power_0 1 rfl rfl)
theorem dX4_power_2 : decode cX4_power 2 = .ok (.iconst 0, 1) := dk_3 (dk_at dksX4_power_0 2 rfl rfl)
theorem dX4_power_3 : decode cX4_power 3 = .ok (.istore_n 3, 1) := dk_62 (dk_at dksX4_power_0 3 rfl rfl)
theorem dX4_power_4 : decode cX4_power 4 = .ok (.iload_n 3, 1) := dk_29 (dk_at dksX4_power_0 4 rfl rfl)
theorem dX4_power_5 : decode cX4_power 5 = .ok (.iload_n 1, 1) := dk_27 (dk_at dksX4_power_0 5 rfl rfl)
theorem dX4_power_6 : decode cX4_power 6 = .ok (.if_icmp .ge 18, 3) := dk_162 0 18 (dk_at dksX4_power_0 6 rfl rfl)
theorem dX4_power_9 : decode cX4_power 9 = .ok (.iload_n 2, 1) := dk_28 (dk_at dksX4_power_0 9 rfl rfl)
theorem dX4_power_10 : decode cX4_power 10 = .ok (.aload_n 0, 1) := dk_42 (dk_at dksX4_power_0 10 rfl rfl)
theorem dX4_power_11 : decode cX4_power 11 = .ok (.getfield 39, 3) := dk_180 0 39 (dk_at dksX4_power_0 11 rfl rfl)
theorem dX4_power_14 : decode cX4_power 14 = .ok (.iconst 0, 1) := dk_3 (dk_at dksX4_power_0 14 rfl rfl)
theorem dX4_power_15 : decode cX4_power 15 = .ok (.iaload, 1) := dk_46 (dk_at dksX4_power_0 15 rfl rfl)
theorem dX4_power_16 : decode cX4_power 16 = .ok (.imul, 1) := dk_104 (dk_at dksX4_power_0 16 rfl rfl)
theorem dX4_power_17 : decode cX4_power 17 = .ok (.istore_n 2, 1) := dk_61 (dk_at dksX4_power_0 17 rfl rfl)
theorem dX4_power_18 : decode cX4_power 18 = .ok (.iinc 3 1, 3) := dk_132 3 1 (dk_at dksX4_power_0 18 rfl rfl)
theorem dX4_power_21 : decode cX4_power 21 = .ok (.goto (-17), 3) := dk_167 255 239 (dk_at dksX4_power_0 21 rfl rfl)
theorem dX4_power_24 : decode cX4_power 24 = .ok (.iload_n 2, 1) := dk_28 (dk_at dksX4_power_1 0 rfl rfl)
theorem dX4_power_25 : decode cX4_power 25 = .ok (.ireturn, 1) := dk_172 (dk_at dksX4_power_1 1 rfl rfl)
abbrev cX4_areAtGoals : ByteArray := prog_20_method_91_code
def yX4_areAtGoals : MethodName := ⟨RX4, "areAtGoals", "(II)Z"⟩
def dkwX4_areAtGoals_1 : List UInt8 := [182, 1, 153, 42, 29, 4, 182, 1, 23, 159, 0, 5, 3, 172, 132, 3, 1, 167, 255, 218, 4, 172]
abbrev dktX4_areAtGoals_1 : List UInt8 := dkwX4_areAtGoals_1 ++ []
def dkwX4_areAtGoals_0 : List UInt8 := [3, 62, 29, 42, 180, 0, 39, 5, 46, 162, 0, 34, 28, 29, 184, 1, 66, 153, 0, 20, 42, 27, 29]
abbrev dktX4_areAtGoals_0 : List UInt8 := dkwX4_areAtGoals_0 ++ dktX4_areAtGoals_1
theorem dksX4_areAtGoals_0 : cX4_areAtGoals.data.toList.drop 0 = dktX4_areAtGoals_0 := by decide +kernel
theorem dksX4_areAtGoals_1 : cX4_areAtGoals.data.toList.drop 23 = dktX4_areAtGoals_1 := dk_seg dksX4_areAtGoals_0 23 rfl rfl
theorem dX4_areAtGoals_0 : decode cX4_areAtGoals 0 = .ok (.iconst 0, 1) := dk_3 (dk_at dksX4_areAtGoals_0 0 rfl rfl)
theorem dX4_areAtGoals_1 : decode cX4_areAtGoals 1 = .ok (.istore_n 3, 1) := dk_62 (dk_at dksX4_areAtGoals_0 1 rfl rfl)
theorem dX4_areAtGoals_2 : decode cX4_areAtGoals 2 = .ok (.iload_n 3, 1) := dk_29 (dk_at dksX4_areAtGoals_0 2 rfl rfl)
theorem dX4_areAtGoals_3 : decode cX4_areAtGoals 3 = .ok (.aload_n 0, 1) := dk_42 (dk_at dksX4_areAtGoals_0 3 rfl rfl)
theorem dX4_areAtGoals_4 : decode cX4_areAtGoals 4 = .ok (.getfield 39, 3) := dk_180 0 39 (dk_at dksX4_areAtGoals_0 4 rfl rfl)
theorem dX4_areAtGoals_7 : decode cX4_areAtGoals 7 = .ok (.iconst 2, 1) := dk_5 (dk_at dksX4_areAtGoals_0 7 rfl rfl)
theorem dX4_areAtGoals_8 : decode cX4_areAtGoals 8 = .ok (.iaload, 1) := dk_46 (dk_at dksX4_areAtGoals_0 8 rfl rfl)
theorem dX4_areAtGoals_9 : decode cX4_areAtGoals 9 = .ok (.if_icmp .ge 34, 3) := dk_162 0 34 (dk_at dksX4_areAtGoals_0 9 rfl rfl)
theorem dX4_areAtGoals_12 : decode cX4_areAtGoals 12 = .ok (.iload_n 2, 1) := dk_28 (dk_at dksX4_areAtGoals_0 12 rfl rfl)
theorem dX4_areAtGoals_13 : decode cX4_areAtGoals 13 = .ok (.iload_n 3, 1) := dk_29 (dk_at dksX4_areAtGoals_0 13 rfl rfl)
theorem dX4_areAtGoals_14 : decode cX4_areAtGoals 14 = .ok (.invokestatic 322, 3) := dk_184 1 66 (dk_at dksX4_areAtGoals_0 14 rfl rfl)
theorem dX4_areAtGoals_17 : decode cX4_areAtGoals 17 = .ok (.ifCond .eq 20, 3) := dk_153 0 20 (dk_at dksX4_areAtGoals_0 17 rfl rfl)
theorem dX4_areAtGoals_20 : decode cX4_areAtGoals 20 = .ok (.aload_n 0, 1) := dk_42 (dk_at dksX4_areAtGoals_0 20 rfl rfl)
theorem dX4_areAtGoals_21 : decode cX4_areAtGoals 21 = .ok (.iload_n 1, 1) := dk_27 (dk_at dksX4_areAtGoals_0 21 rfl rfl)
theorem dX4_areAtGoals_22 : decode cX4_areAtGoals 22 = .ok (.iload_n 3, 1) := dk_29 (dk_at dksX4_areAtGoals_0 22 rfl rfl)
theorem dX4_areAtGoals_23 : decode cX4_areAtGoals 23 = .ok (.invokevirtual 409, 3) := dk_182 1 153 (dk_at dksX4_areAtGoals_1 0 rfl rfl)
theorem dX4_areAtGoals_26 : decode cX4_areAtGoals 26 = .ok (.aload_n 0, 1) := dk_42 (dk_at dksX4_areAtGoals_1 3 rfl rfl)
theorem dX4_areAtGoals_27 : decode cX4_areAtGoals 27 = .ok (.iload_n 3, 1) := dk_29 (dk_at dksX4_areAtGoals_1 4 rfl rfl)
theorem dX4_areAtGoals_28 : decode cX4_areAtGoals 28 = .ok (.iconst 1, 1) := dk_4 (dk_at dksX4_areAtGoals_1 5 rfl rfl)
theorem dX4_areAtGoals_29 : decode cX4_areAtGoals 29 = .ok (.invokevirtual 279, 3) := dk_182 1 23 (dk_at dksX4_areAtGoals_1 6 rfl rfl)
theorem dX4_areAtGoals_32 : decode cX4_areAtGoals 32 = .ok (.if_icmp .eq 5, 3) := dk_159 0 5 (dk_at dksX4_areAtGoals_1 9 rfl rfl)
theorem dX4_areAtGoals_35 : decode cX4_areAtGoals 35 = .ok (.iconst 0, 1) := dk_3 (dk_at dksX4_areAtGoals_1 12 rfl rfl)
theorem dX4_areAtGoals_36 : decode cX4_areAtGoals 36 = .ok (.ireturn, 1) := dk_172 (dk_at dksX4_areAtGoals_1 13 rfl rfl)
theorem dX4_areAtGoals_37 : decode cX4_areAtGoals 37 = .ok (.iinc 3 1, 3) := dk_132 3 1 (dk_at dksX4_areAtGoals_1 14 rfl rfl)
theorem dX4_areAtGoals_40 : decode cX4_areAtGoals 40 = .ok (.goto (-38), 3) := dk_167 255 218 (dk_at dksX4_areAtGoals_1 17 rfl rfl)
theorem dX4_areAtGoals_43 : decode cX4_areAtGoals 43 = .ok (.iconst 1, 1) := dk_4 (dk_at dksX4_areAtGoals_1 20 rfl rfl)
theorem dX4_areAtGoals_44 : decode cX4_areAtGoals 44 = .ok (.ireturn, 1) := dk_172 (dk_at dksX4_areAtGoals_1 21 rfl rfl)
abbrev cX4_roomIn : ByteArray := prog_20_method_88_code
def yX4_roomIn : MethodName := ⟨RX4, "roomIn", "(II)I"⟩
def dkwX4_roomIn_0 : List UInt8 := [27, 42, 28, 182, 1, 150, 108, 42, 180, 0, 39, 3, 46, 112, 172]
abbrev dktX4_roomIn_0 : List UInt8 := dkwX4_roomIn_0 ++ []
theorem dksX4_roomIn_0 : cX4_roomIn.data.toList.drop 0 = dktX4_roomIn_0 := by decide +kernel
theorem dX4_roomIn_0 : decode cX4_roomIn 0 = .ok (.iload_n 1, 1) := dk_27 (dk_at dksX4_roomIn_0 0 rfl rfl)
theorem dX4_roomIn_1 : decode cX4_roomIn 1 = .ok (.aload_n 0, 1) := dk_42 (dk_at dksX4_roomIn_0 1 rfl rfl)
theorem dX4_roomIn_2 : decode cX4_roomIn 2 = .ok (.iload_n 2, 1) := dk_28 (dk_at dksX4_roomIn_0 2 rfl rfl)
theorem dX4_roomIn_3 : decode cX4_roomIn 3 = .ok (.invokevirtual 406, 3) := dk_182 1 150 (dk_at dksX4_roomIn_0 3 rfl rfl)
theorem dX4_roomIn_6 : decode cX4_roomIn 6 = .ok (.idiv, 1) := dk_108 (dk_at dksX4_roomIn_0 6 rfl rfl)
theorem dX4_roomIn_7 : decode cX4_roomIn 7 = .ok (.aload_n 0, 1) := dk_42 (dk_at dksX4_roomIn_0 7 rfl rfl)
theorem dX4_roomIn_8 : decode cX4_roomIn 8 = .ok (.getfield 39, 3) := dk_180 0 39 (dk_at dksX4_roomIn_0 8 rfl rfl)
theorem dX4_roomIn_11 : decode cX4_roomIn 11 = .ok (.iconst 0, 1) := dk_3 (dk_at dksX4_roomIn_0 11 rfl rfl)
theorem dX4_roomIn_12 : decode cX4_roomIn 12 = .ok (.iaload, 1) := dk_46 (dk_at dksX4_roomIn_0 12 rfl rfl)
theorem dX4_roomIn_13 : decode cX4_roomIn 13 = .ok (.irem, 1) := dk_112 (dk_at dksX4_roomIn_0 13 rfl rfl)
theorem dX4_roomIn_14 : decode cX4_roomIn 14 = .ok (.ireturn, 1) := dk_172 (dk_at dksX4_roomIn_0 14 rfl rfl)
abbrev cX4_reaches : ByteArray := prog_20_method_92_code
def yX4_reaches : MethodName := ⟨RX4, "reaches", "(II)V"⟩
def dkwX4_reaches_1 : List UInt8 := [180, 1, 156, 27, 79, 42, 89, 180, 1, 156, 4, 96, 181, 1, 156, 177]
abbrev dktX4_reaches_1 : List UInt8 := dkwX4_reaches_1 ++ []
def dkwX4_reaches_0 : List UInt8 := [42, 180, 0, 63, 27, 46, 155, 0, 4, 177, 42, 180, 0, 63, 27, 28, 79, 42, 180, 0, 66, 42]
abbrev dktX4_reaches_0 : List UInt8 := dkwX4_reaches_0 ++ dktX4_reaches_1
theorem dksX4_reaches_0 : cX4_reaches.data.toList.drop 0 = dktX4_reaches_0 := by decide +kernel
theorem dksX4_reaches_1 : cX4_reaches.data.toList.drop 22 = dktX4_reaches_1 := dk_seg dksX4_reaches_0 22 rfl rfl
theorem dX4_reaches_0 : decode cX4_reaches 0 = .ok (.aload_n 0, 1) := dk_42 (dk_at dksX4_reaches_0 0 rfl rfl)
theorem dX4_reaches_1 : decode cX4_reaches 1 = .ok (.getfield 63, 3) := dk_180 0 63 (dk_at dksX4_reaches_0 1 rfl rfl)
theorem dX4_reaches_4 : decode cX4_reaches 4 = .ok (.iload_n 1, 1) := dk_27 (dk_at dksX4_reaches_0 4 rfl rfl)
theorem dX4_reaches_5 : decode cX4_reaches 5 = .ok (.iaload, 1) := dk_46 (dk_at dksX4_reaches_0 5 rfl rfl)
theorem dX4_reaches_6 : decode cX4_reaches 6 = .ok (.ifCond .lt 4, 3) := dk_155 0 4 (dk_at dksX4_reaches_0 6 rfl rfl)
theorem dX4_reaches_9 : decode cX4_reaches 9 = .ok (.return_, 1) := dk_177 (dk_at dksX4_reaches_0 9 rfl rfl)
theorem dX4_reaches_10 : decode cX4_reaches 10 = .ok (.aload_n 0, 1) := dk_42 (dk_at dksX4_reaches_0 10 rfl rfl)
theorem dX4_reaches_11 : decode cX4_reaches 11 = .ok (.getfield 63, 3) := dk_180 0 63 (dk_at dksX4_reaches_0 11 rfl rfl)
theorem dX4_reaches_14 : decode cX4_reaches 14 = .ok (.iload_n 1, 1) := dk_27 (dk_at dksX4_reaches_0 14 rfl rfl)
theorem dX4_reaches_15 : decode cX4_reaches 15 = .ok (.iload_n 2, 1) := dk_28 (dk_at dksX4_reaches_0 15 rfl rfl)
theorem dX4_reaches_16 : decode cX4_reaches 16 = .ok (.iastore, 1) := dk_79 (dk_at dksX4_reaches_0 16 rfl rfl)
theorem dX4_reaches_17 : decode cX4_reaches 17 = .ok (.aload_n 0, 1) := dk_42 (dk_at dksX4_reaches_0 17 rfl rfl)
theorem dX4_reaches_18 : decode cX4_reaches 18 = .ok (.getfield 66, 3) := dk_180 0 66 (dk_at dksX4_reaches_0 18 rfl rfl)
theorem dX4_reaches_21 : decode cX4_reaches 21 = .ok (.aload_n 0, 1) := dk_42 (dk_at dksX4_reaches_0 21 rfl rfl)
theorem dX4_reaches_22 : decode cX4_reaches 22 = .ok (.getfield 412, 3) := dk_180 1 156 (dk_at dksX4_reaches_1 0 rfl rfl)
theorem dX4_reaches_25 : decode cX4_reaches 25 = .ok (.iload_n 1, 1) := dk_27 (dk_at dksX4_reaches_1 3 rfl rfl)
theorem dX4_reaches_26 : decode cX4_reaches 26 = .ok (.iastore, 1) := dk_79 (dk_at dksX4_reaches_1 4 rfl rfl)
theorem dX4_reaches_27 : decode cX4_reaches 27 = .ok (.aload_n 0, 1) := dk_42 (dk_at dksX4_reaches_1 5 rfl rfl)
theorem dX4_reaches_28 : decode cX4_reaches 28 = .ok (.dup, 1) := dk_89 (dk_at dksX4_reaches_1 6 rfl rfl)
theorem dX4_reaches_29 : decode cX4_reaches 29 = .ok (.getfield 412, 3) := dk_180 1 156 (dk_at dksX4_reaches_1 7 rfl rfl)
theorem dX4_reaches_32 : decode cX4_reaches 32 = .ok (.iconst 1, 1) := dk_4 (dk_at dksX4_reaches_1 10 rfl rfl)
theorem dX4_reaches_33 : decode cX4_reaches 33 = .ok (.iadd, 1) := dk_96 (dk_at dksX4_reaches_1 11 rfl rfl)
theorem dX4_reaches_34 : decode cX4_reaches 34 = .ok (.putfield 412, 3) := dk_181 1 156 (dk_at dksX4_reaches_1 12 rfl rfl)
theorem dX4_reaches_37 : decode cX4_reaches 37 = .ok (.return_, 1) := dk_177 (dk_at dksX4_reaches_1 15 rfl rfl)
abbrev cX4_goesBack : ByteArray := prog_20_method_94_code
def yX4_goesBack : MethodName := ⟨RX4, "goesBack", "(I)V"⟩
def dkwX4_goesBack_1 : List UInt8 := [167, 255, 234, 177]
abbrev dktX4_goesBack_1 : List UInt8 := dkwX4_goesBack_1 ++ []
def dkwX4_goesBack_0 : List UInt8 := [3, 61, 28, 42, 180, 1, 156, 162, 0, 20, 42, 42, 180, 0, 66, 28, 46, 27, 182, 1, 169, 132, 2, 1]
abbrev dktX4_goesBack_0 : List UInt8 := dkwX4_goesBack_0 ++ dktX4_goesBack_1
theorem dksX4_goesBack_0 : cX4_goesBack.data.toList.drop 0 = dktX4_goesBack_0 := by decide +kernel
theorem dksX4_goesBack_1 : cX4_goesBack.data.toList.drop 24 = dktX4_goesBack_1 := dk_seg dksX4_goesBack_0 24 rfl rfl
theorem dX4_goesBack_0 : decode cX4_goesBack 0 = .ok (.iconst 0, 1) := dk_3 (dk_at dksX4_goesBack_0 0 rfl rfl)
theorem dX4_goesBack_1 : decode cX4_goesBack 1 = .ok (.istore_n 2, 1) := dk_61 (dk_at dksX4_goesBack_0 1 rfl rfl)
theorem dX4_goesBack_2 : decode cX4_goesBack 2 = .ok (.iload_n 2, 1) := dk_28 (dk_at dksX4_goesBack_0 2 rfl rfl)
theorem dX4_goesBack_3 : decode cX4_goesBack 3 = .ok (.aload_n 0, 1) := dk_42 (dk_at dksX4_goesBack_0 3 rfl rfl)
theorem dX4_goesBack_4 : decode cX4_goesBack 4 = .ok (.getfield 412, 3) := dk_180 1 156 (dk_at dksX4_goesBack_0 4 rfl rfl)
theorem dX4_goesBack_7 : decode cX4_goesBack 7 = .ok (.if_icmp .ge 20, 3) := dk_162 0 20 (dk_at dksX4_goesBack_0 7 rfl rfl)
theorem dX4_goesBack_10 : decode cX4_goesBack 10 = .ok (.aload_n 0, 1) := dk_42 (dk_at dksX4_goesBack_0 10 rfl rfl)
theorem dX4_goesBack_11 : decode cX4_goesBack 11 = .ok (.aload_n 0, 1) := dk_42 (dk_at dksX4_goesBack_0 11 rfl rfl)
theorem dX4_goesBack_12 : decode cX4_goesBack 12 = .ok (.getfield 66, 3) := dk_180 0 66 (dk_at dksX4_goesBack_0 12 rfl rfl)
theorem dX4_goesBack_15 : decode cX4_goesBack 15 = .ok (.iload_n 2, 1) := dk_28 (dk_at dksX4_goesBack_0 15 rfl rfl)
theorem dX4_goesBack_16 : decode cX4_goesBack 16 = .ok (.iaload, 1) := dk_46 (dk_at dksX4_goesBack_0 16 rfl rfl)
theorem dX4_goesBack_17 : decode cX4_goesBack 17 = .ok (.iload_n 1, 1) := dk_27 (dk_at dksX4_goesBack_0 17 rfl rfl)
theorem dX4_goesBack_18 : decode cX4_goesBack 18 = .ok (.invokevirtual 425, 3) := dk_182 1 169 (dk_at dksX4_goesBack_0 18 rfl rfl)
theorem dX4_goesBack_21 : decode cX4_goesBack 21 = .ok (.iinc 2 1, 3) := dk_132 2 1 (dk_at dksX4_goesBack_0 21 rfl rfl)
theorem dX4_goesBack_24 : decode cX4_goesBack 24 = .ok (.goto (-22), 3) := dk_167 255 234 (dk_at dksX4_goesBack_1 0 rfl rfl)
theorem dX4_goesBack_27 : decode cX4_goesBack 27 = .ok (.return_, 1) := dk_177 (dk_at dksX4_goesBack_1 3 rfl rfl)
abbrev cX4_reachesBack : ByteArray := prog_20_method_93_code
def yX4_reachesBack : MethodName := ⟨RX4, "reachesBack", "(II)V"⟩
def dkwX4_reachesBack_9 : List UInt8 := [167, 255, 204, 132, 4, 1, 167, 255, 53, 177]
abbrev dktX4_reachesBack_9 : List UInt8 := dkwX4_reachesBack_9 ++ []
def dkwX4_reachesBack_8 : List UInt8 := [160, 0, 21, 42, 42, 27, 21, 5, 42, 21, 4, 182, 1, 48, 182, 1, 162, 29, 182, 1, 166, 132, 5, 1]
abbrev dktX4_reachesBack_8 : List UInt8 := dkwX4_reachesBack_8 ++ dktX4_reachesBack_9
def dkwX4_reachesBack_7 : List UInt8 := [162, 0, 49, 21, 4, 28, 160, 0, 43, 42, 27, 21, 5, 182, 1, 153, 42, 21, 4, 182, 1, 45]
abbrev dktX4_reachesBack_7 : List UInt8 := dkwX4_reachesBack_7 ++ dktX4_reachesBack_8
def dkwX4_reachesBack_6 : List UInt8 := [182, 1, 166, 132, 7, 1, 167, 255, 202, 132, 5, 1, 167, 255, 143, 3, 54, 5, 21, 5, 42, 180, 1, 159]
abbrev dktX4_reachesBack_6 : List UInt8 := dkwX4_reachesBack_6 ++ dktX4_reachesBack_7
def dkwX4_reachesBack_5 : List UInt8 := [182, 1, 45, 160, 0, 22, 42, 42, 21, 6, 21, 7, 42, 21, 4, 182, 1, 48, 182, 1, 162, 29]
abbrev dktX4_reachesBack_5 : List UInt8 := dkwX4_reachesBack_5 ++ dktX4_reachesBack_6
def dkwX4_reachesBack_4 : List UInt8 := [180, 1, 159, 162, 0, 51, 21, 7, 21, 5, 159, 0, 38, 42, 27, 21, 7, 182, 1, 153, 42, 21, 4]
abbrev dktX4_reachesBack_4 : List UInt8 := dkwX4_reachesBack_4 ++ dktX4_reachesBack_5
def dkwX4_reachesBack_3 : List UInt8 := [21, 4, 182, 1, 45, 182, 1, 162, 54, 6, 42, 21, 6, 29, 182, 1, 166, 3, 54, 7, 21, 7, 42]
abbrev dktX4_reachesBack_3 : List UInt8 := dkwX4_reachesBack_3 ++ dktX4_reachesBack_4
def dkwX4_reachesBack_2 : List UInt8 := [27, 21, 5, 182, 1, 153, 42, 21, 4, 182, 1, 48, 159, 0, 6, 167, 0, 85, 42, 27, 21, 5, 42]
abbrev dktX4_reachesBack_2 : List UInt8 := dkwX4_reachesBack_2 ++ dktX4_reachesBack_3
def dkwX4_reachesBack_1 : List UInt8 := [21, 4, 182, 1, 54, 154, 0, 6, 167, 0, 180, 3, 54, 5, 21, 5, 42, 180, 1, 159, 162, 0, 110, 42]
abbrev dktX4_reachesBack_1 : List UInt8 := dkwX4_reachesBack_1 ++ dktX4_reachesBack_2
def dkwX4_reachesBack_0 : List UInt8 := [42, 180, 0, 63, 27, 46, 4, 96, 62, 3, 54, 4, 21, 4, 42, 180, 0, 39, 4, 46, 162, 0, 198, 42]
abbrev dktX4_reachesBack_0 : List UInt8 := dkwX4_reachesBack_0 ++ dktX4_reachesBack_1
theorem dksX4_reachesBack_0 : cX4_reachesBack.data.toList.drop 0 = dktX4_reachesBack_0 := by decide +kernel
theorem dksX4_reachesBack_1 : cX4_reachesBack.data.toList.drop 24 = dktX4_reachesBack_1 := dk_seg dksX4_reachesBack_0 24 rfl rfl
theorem dksX4_reachesBack_2 : cX4_reachesBack.data.toList.drop 48 = dktX4_reachesBack_2 := dk_seg dksX4_reachesBack_1 24 rfl rfl
theorem dksX4_reachesBack_3 : cX4_reachesBack.data.toList.drop 71 = dktX4_reachesBack_3 := dk_seg dksX4_reachesBack_2 23 rfl rfl
theorem dksX4_reachesBack_4 : cX4_reachesBack.data.toList.drop 94 = dktX4_reachesBack_4 := dk_seg dksX4_reachesBack_3 23 rfl rfl
theorem dksX4_reachesBack_5 : cX4_reachesBack.data.toList.drop 117 = dktX4_reachesBack_5 := dk_seg dksX4_reachesBack_4 23 rfl rfl
theorem dksX4_reachesBack_6 : cX4_reachesBack.data.toList.drop 139 = dktX4_reachesBack_6 := dk_seg dksX4_reachesBack_5 22 rfl rfl
theorem dksX4_reachesBack_7 : cX4_reachesBack.data.toList.drop 163 = dktX4_reachesBack_7 := dk_seg dksX4_reachesBack_6 24 rfl rfl
theorem dksX4_reachesBack_8 : cX4_reachesBack.data.toList.drop 185 = dktX4_reachesBack_8 := dk_seg dksX4_reachesBack_7 22 rfl rfl
theorem dksX4_reachesBack_9 : cX4_reachesBack.data.toList.drop 209 = dktX4_reachesBack_9 := dk_seg dksX4_reachesBack_8 24 rfl rfl
theorem dX4_reachesBack_0 : decode cX4_reachesBack 0 = .ok (.aload_n 0, 1) := dk_42 (dk_at dksX4_reachesBack_0 0 rfl rfl)
theorem dX4_reachesBack_1 : decode cX4_reachesBack 1 = .ok (.getfield 63, 3) := dk_180 0 63 (dk_at dksX4_reachesBack_0 1 rfl rfl)
theorem dX4_reachesBack_4 : decode cX4_reachesBack 4 = .ok (.iload_n 1, 1) := dk_27 (dk_at dksX4_reachesBack_0 4 rfl rfl)
theorem dX4_reachesBack_5 : decode cX4_reachesBack 5 = .ok (.iaload, 1) := dk_46 (dk_at dksX4_reachesBack_0 5 rfl rfl)
theorem dX4_reachesBack_6 : decode cX4_reachesBack 6 = .ok (.iconst 1, 1) := dk_4 (dk_at dksX4_reachesBack_0 6 rfl rfl)
theorem dX4_reachesBack_7 : decode cX4_reachesBack 7 = .ok (.iadd, 1) := dk_96 (dk_at dksX4_reachesBack_0 7 rfl rfl)
theorem dX4_reachesBack_8 : decode cX4_reachesBack 8 = .ok (.istore_n 3, 1) := dk_62 (dk_at dksX4_reachesBack_0 8 rfl rfl)
theorem dX4_reachesBack_9 : decode cX4_reachesBack 9 = .ok (.iconst 0, 1) := dk_3 (dk_at dksX4_reachesBack_0 9 rfl rfl)
theorem dX4_reachesBack_10 : decode cX4_reachesBack 10 = .ok (.istore 4, 2) := dk_54 4 (dk_at dksX4_reachesBack_0 10 rfl rfl)
theorem dX4_reachesBack_12 : decode cX4_reachesBack 12 = .ok (.iload 4, 2) := dk_21 4 (dk_at dksX4_reachesBack_0 12 rfl rfl)
theorem dX4_reachesBack_14 : decode cX4_reachesBack 14 = .ok (.aload_n 0, 1) := dk_42 (dk_at dksX4_reachesBack_0 14 rfl rfl)
theorem dX4_reachesBack_15 : decode cX4_reachesBack 15 = .ok (.getfield 39, 3) := dk_180 0 39 (dk_at dksX4_reachesBack_0 15 rfl rfl)
theorem dX4_reachesBack_18 : decode cX4_reachesBack 18 = .ok (.iconst 1, 1) := dk_4 (dk_at dksX4_reachesBack_0 18 rfl rfl)
theorem dX4_reachesBack_19 : decode cX4_reachesBack 19 = .ok (.iaload, 1) := dk_46 (dk_at dksX4_reachesBack_0 19 rfl rfl)
theorem dX4_reachesBack_20 : decode cX4_reachesBack 20 = .ok (.if_icmp .ge 198, 3) := dk_162 0 198 (dk_at dksX4_reachesBack_0 20 rfl rfl)
theorem dX4_reachesBack_23 : decode cX4_reachesBack 23 = .ok (.aload_n 0, 1) := dk_42 (dk_at dksX4_reachesBack_0 23 rfl rfl)
theorem dX4_reachesBack_24 : decode cX4_reachesBack 24 = .ok (.iload 4, 2) := dk_21 4 (dk_at dksX4_reachesBack_1 0 rfl rfl)
theorem dX4_reachesBack_26 : decode cX4_reachesBack 26 = .ok (.invokevirtual 310, 3) := dk_182 1 54 (dk_at dksX4_reachesBack_1 2 rfl rfl)
theorem dX4_reachesBack_29 : decode cX4_reachesBack 29 = .ok (.ifCond .ne 6, 3) := dk_154 0 6 (dk_at dksX4_reachesBack_1 5 rfl rfl)
theorem dX4_reachesBack_32 : decode cX4_reachesBack 32 = .ok (.goto 180, 3) := dk_167 0 180 (dk_at dksX4_reachesBack_1 8 rfl rfl)
theorem dX4_reachesBack_35 : decode cX4_reachesBack 35 = .ok (.iconst 0, 1) := dk_3 (dk_at dksX4_reachesBack_1 11 rfl rfl)
theorem dX4_reachesBack_36 : decode cX4_reachesBack 36 = .ok (.istore 5, 2) := dk_54 5 (dk_at dksX4_reachesBack_1 12 rfl rfl)
theorem dX4_reachesBack_38 : decode cX4_reachesBack 38 = .ok (.iload 5, 2) := dk_21 5 (dk_at dksX4_reachesBack_1 14 rfl rfl)
theorem dX4_reachesBack_40 : decode cX4_reachesBack 40 = .ok (.aload_n 0, 1) := dk_42 (dk_at dksX4_reachesBack_1 16 rfl rfl)
theorem dX4_reachesBack_41 : decode cX4_reachesBack 41 = .ok (.getfield 415, 3) := dk_180 1 159 (dk_at dksX4_reachesBack_1 17 rfl rfl)
theorem dX4_reachesBack_44 : decode cX4_reachesBack 44 = .ok (.if_icmp .ge 110, 3) := dk_162 0 110 (dk_at dksX4_reachesBack_1 20 rfl rfl)
theorem dX4_reachesBack_47 : decode cX4_reachesBack 47 = .ok (.aload_n 0, 1) := dk_42 (dk_at dksX4_reachesBack_1 23 rfl rfl)
theorem dX4_reachesBack_48 : decode cX4_reachesBack 48 = .ok (.iload_n 1, 1) := dk_27 (dk_at dksX4_reachesBack_2 0 rfl rfl)
theorem dX4_reachesBack_49 : decode cX4_reachesBack 49 = .ok (.iload 5, 2) := dk_21 5 (dk_at dksX4_reachesBack_2 1 rfl rfl)
theorem dX4_reachesBack_51 : decode cX4_reachesBack 51 = .ok (.invokevirtual 409, 3) := dk_182 1 153 (dk_at dksX4_reachesBack_2 3 rfl rfl)
theorem dX4_reachesBack_54 : decode cX4_reachesBack 54 = .ok (.aload_n 0, 1) := dk_42 (dk_at dksX4_reachesBack_2 6 rfl rfl)
theorem dX4_reachesBack_55 : decode cX4_reachesBack 55 = .ok (.iload 4, 2) := dk_21 4 (dk_at dksX4_reachesBack_2 7 rfl rfl)
theorem dX4_reachesBack_57 : decode cX4_reachesBack 57 = .ok (.invokevirtual 304, 3) := dk_182 1 48 (dk_at dksX4_reachesBack_2 9 rfl rfl)
theorem dX4_reachesBack_60 : decode cX4_reachesBack 60 = .ok (.if_icmp .eq 6, 3) := dk_159 0 6 (dk_at dksX4_reachesBack_2 12 rfl rfl)
theorem dX4_reachesBack_63 : decode cX4_reachesBack 63 = .ok (.goto 85, 3) := dk_167 0 85 (dk_at dksX4_reachesBack_2 15 rfl rfl)
theorem dX4_reachesBack_66 : decode cX4_reachesBack 66 = .ok (.aload_n 0, 1) := dk_42 (dk_at dksX4_reachesBack_2 18 rfl rfl)
theorem dX4_reachesBack_67 : decode cX4_reachesBack 67 = .ok (.iload_n 1, 1) := dk_27 (dk_at dksX4_reachesBack_2 19 rfl rfl)
theorem dX4_reachesBack_68 : decode cX4_reachesBack 68 = .ok (.iload 5, 2) := dk_21 5 (dk_at dksX4_reachesBack_2 20 rfl rfl)
theorem dX4_reachesBack_70 : decode cX4_reachesBack 70 = .ok (.aload_n 0, 1) := dk_42 (dk_at dksX4_reachesBack_2 22 rfl rfl)
theorem dX4_reachesBack_71 : decode cX4_reachesBack 71 = .ok (.iload 4, 2) := dk_21 4 (dk_at dksX4_reachesBack_3 0 rfl rfl)
theorem dX4_reachesBack_73 : decode cX4_reachesBack 73 = .ok (.invokevirtual 301, 3) := dk_182 1 45 (dk_at dksX4_reachesBack_3 2 rfl rfl)
theorem dX4_reachesBack_76 : decode cX4_reachesBack 76 = .ok (.invokevirtual 418, 3) := dk_182 1 162 (dk_at dksX4_reachesBack_3 5 rfl rfl)
theorem dX4_reachesBack_79 : decode cX4_reachesBack 79 = .ok (.istore 6, 2) := dk_54 6 (dk_at dksX4_reachesBack_3 8 rfl rfl)
theorem dX4_reachesBack_81 : decode cX4_reachesBack 81 = .ok (.aload_n 0, 1) := dk_42 (dk_at dksX4_reachesBack_3 10 rfl rfl)
theorem dX4_reachesBack_82 : decode cX4_reachesBack 82 = .ok (.iload 6, 2) := dk_21 6 (dk_at dksX4_reachesBack_3 11 rfl rfl)
theorem dX4_reachesBack_84 : decode cX4_reachesBack 84 = .ok (.iload_n 3, 1) := dk_29 (dk_at dksX4_reachesBack_3 13 rfl rfl)
theorem dX4_reachesBack_85 : decode cX4_reachesBack 85 = .ok (.invokevirtual 422, 3) := dk_182 1 166 (dk_at dksX4_reachesBack_3 14 rfl rfl)
theorem dX4_reachesBack_88 : decode cX4_reachesBack 88 = .ok (.iconst 0, 1) := dk_3 (dk_at dksX4_reachesBack_3 17 rfl rfl)
theorem dX4_reachesBack_89 : decode cX4_reachesBack 89 = .ok (.istore 7, 2) := dk_54 7 (dk_at dksX4_reachesBack_3 18 rfl rfl)
theorem dX4_reachesBack_91 : decode cX4_reachesBack 91 = .ok (.iload 7, 2) := dk_21 7 (dk_at dksX4_reachesBack_3 20 rfl rfl)
theorem dX4_reachesBack_93 : decode cX4_reachesBack 93 = .ok (.aload_n 0, 1) := dk_42 (dk_at dksX4_reachesBack_3 22 rfl rfl)
theorem dX4_reachesBack_94 : decode cX4_reachesBack 94 = .ok (.getfield 415, 3) := dk_180 1 159 (dk_at dksX4_reachesBack_4 0 rfl rfl)
theorem dX4_reachesBack_97 : decode cX4_reachesBack 97 = .ok (.if_icmp .ge 51, 3) := dk_162 0 51 (dk_at dksX4_reachesBack_4 3 rfl rfl)
theorem dX4_reachesBack_100 : decode cX4_reachesBack 100 = .ok (.iload 7, 2) := dk_21 7 (dk_at dksX4_reachesBack_4 6 rfl rfl)
theorem dX4_reachesBack_102 : decode cX4_reachesBack 102 = .ok (.iload 5, 2) := dk_21 5 (dk_at dksX4_reachesBack_4 8 rfl rfl)
theorem dX4_reachesBack_104 : decode cX4_reachesBack 104 = .ok (.if_icmp .eq 38, 3) := dk_159 0 38 (dk_at dksX4_reachesBack_4 10 rfl rfl)
theorem dX4_reachesBack_107 : decode cX4_reachesBack 107 = .ok (.aload_n 0, 1) := dk_42 (dk_at dksX4_reachesBack_4 13 rfl rfl)
theorem dX4_reachesBack_108 : decode cX4_reachesBack 108 = .ok (.iload_n 1, 1) := dk_27 (dk_at dksX4_reachesBack_4 14 rfl rfl)
theorem dX4_reachesBack_109 : decode cX4_reachesBack 109 = .ok (.iload 7, 2) := dk_21 7 (dk_at dksX4_reachesBack_4 15 rfl rfl)
theorem dX4_reachesBack_111 : decode cX4_reachesBack 111 = .ok (.invokevirtual 409, 3) := dk_182 1 153 (dk_at dksX4_reachesBack_4 17 rfl rfl)
theorem dX4_reachesBack_114 : decode cX4_reachesBack 114 = .ok (.aload_n 0, 1) := dk_42 (dk_at dksX4_reachesBack_4 20 rfl rfl)
theorem dX4_reachesBack_115 : decode cX4_reachesBack 115 = .ok (.iload 4, 2) := dk_21 4 (dk_at dksX4_reachesBack_4 21 rfl rfl)
theorem dX4_reachesBack_117 : decode cX4_reachesBack 117 = .ok (.invokevirtual 301, 3) := dk_182 1 45 (dk_at dksX4_reachesBack_5 0 rfl rfl)
theorem dX4_reachesBack_120 : decode cX4_reachesBack 120 = .ok (.if_icmp .ne 22, 3) := dk_160 0 22 (dk_at dksX4_reachesBack_5 3 rfl rfl)
theorem dX4_reachesBack_123 : decode cX4_reachesBack 123 = .ok (.aload_n 0, 1) := dk_42 (dk_at dksX4_reachesBack_5 6 rfl rfl)
theorem dX4_reachesBack_124 : decode cX4_reachesBack 124 = .ok (.aload_n 0, 1) := dk_42 (dk_at dksX4_reachesBack_5 7 rfl rfl)
theorem dX4_reachesBack_125 : decode cX4_reachesBack 125 = .ok (.iload 6, 2) := dk_21 6 (dk_at dksX4_reachesBack_5 8 rfl rfl)
theorem dX4_reachesBack_127 : decode cX4_reachesBack 127 = .ok (.iload 7, 2) := dk_21 7 (dk_at dksX4_reachesBack_5 10 rfl rfl)
theorem dX4_reachesBack_129 : decode cX4_reachesBack 129 = .ok (.aload_n 0, 1) := dk_42 (dk_at dksX4_reachesBack_5 12 rfl rfl)
theorem dX4_reachesBack_130 : decode cX4_reachesBack 130 = .ok (.iload 4, 2) := dk_21 4 (dk_at dksX4_reachesBack_5 13 rfl rfl)
theorem dX4_reachesBack_132 : decode cX4_reachesBack 132 = .ok (.invokevirtual 304, 3) := dk_182 1 48 (dk_at dksX4_reachesBack_5 15 rfl rfl)
theorem dX4_reachesBack_135 : decode cX4_reachesBack 135 = .ok (.invokevirtual 418, 3) := dk_182 1 162 (dk_at dksX4_reachesBack_5 18 rfl rfl)
theorem dX4_reachesBack_138 : decode cX4_reachesBack 138 = .ok (.iload_n 3, 1) := dk_29 (dk_at dksX4_reachesBack_5 21 rfl rfl)
theorem dX4_reachesBack_139 : decode cX4_reachesBack 139 = .ok (.invokevirtual 422, 3) := dk_182 1 166 (dk_at dksX4_reachesBack_6 0 rfl rfl)
theorem dX4_reachesBack_142 : decode cX4_reachesBack 142 = .ok (.iinc 7 1, 3) := dk_132 7 1 (dk_at dksX4_reachesBack_6 3 rfl rfl)
theorem dX4_reachesBack_145 : decode cX4_reachesBack 145 = .ok (.goto (-54), 3) := dk_167 255 202 (dk_at dksX4_reachesBack_6 6 rfl rfl)
theorem dX4_reachesBack_148 : decode cX4_reachesBack 148 = .ok (.iinc 5 1, 3) := dk_132 5 1 (dk_at dksX4_reachesBack_6 9 rfl rfl)
theorem dX4_reachesBack_151 : decode cX4_reachesBack 151 = .ok (.goto (-113), 3) := dk_167 255 143 (dk_at dksX4_reachesBack_6 12 rfl rfl)
theorem dX4_reachesBack_154 : decode cX4_reachesBack 154 = .ok (.iconst 0, 1) := dk_3 (dk_at dksX4_reachesBack_6 15 rfl rfl)
theorem dX4_reachesBack_155 : decode cX4_reachesBack 155 = .ok (.istore 5, 2) := dk_54 5 (dk_at dksX4_reachesBack_6 16 rfl rfl)
theorem dX4_reachesBack_157 : decode cX4_reachesBack 157 = .ok (.iload 5, 2) := dk_21 5 (dk_at dksX4_reachesBack_6 18 rfl rfl)
theorem dX4_reachesBack_159 : decode cX4_reachesBack 159 = .ok (.aload_n 0, 1) := dk_42 (dk_at dksX4_reachesBack_6 20 rfl rfl)
theorem dX4_reachesBack_160 : decode cX4_reachesBack 160 = .ok (.getfield 415, 3) := dk_180 1 159 (dk_at dksX4_reachesBack_6 21 rfl rfl)
theorem dX4_reachesBack_163 : decode cX4_reachesBack 163 = .ok (.if_icmp .ge 49, 3) := dk_162 0 49 (dk_at dksX4_reachesBack_7 0 rfl rfl)
theorem dX4_reachesBack_166 : decode cX4_reachesBack 166 = .ok (.iload 4, 2) := dk_21 4 (dk_at dksX4_reachesBack_7 3 rfl rfl)
theorem dX4_reachesBack_168 : decode cX4_reachesBack 168 = .ok (.iload_n 2, 1) := dk_28 (dk_at dksX4_reachesBack_7 5 rfl rfl)
theorem dX4_reachesBack_169 : decode cX4_reachesBack 169 = .ok (.if_icmp .ne 43, 3) := dk_160 0 43 (dk_at dksX4_reachesBack_7 6 rfl rfl)
theorem dX4_reachesBack_172 : decode cX4_reachesBack 172 = .ok (.aload_n 0, 1) := dk_42 (dk_at dksX4_reachesBack_7 9 rfl rfl)
theorem dX4_reachesBack_173 : decode cX4_reachesBack 173 = .ok (.iload_n 1, 1) := dk_27 (dk_at dksX4_reachesBack_7 10 rfl rfl)
theorem dX4_reachesBack_174 : decode cX4_reachesBack 174 = .ok (.iload 5, 2) := dk_21 5 (dk_at dksX4_reachesBack_7 11 rfl rfl)
theorem dX4_reachesBack_176 : decode cX4_reachesBack 176 = .ok (.invokevirtual 409, 3) := dk_182 1 153 (dk_at dksX4_reachesBack_7 13 rfl rfl)
theorem dX4_reachesBack_179 : decode cX4_reachesBack 179 = .ok (.aload_n 0, 1) := dk_42 (dk_at dksX4_reachesBack_7 16 rfl rfl)
theorem dX4_reachesBack_180 : decode cX4_reachesBack 180 = .ok (.iload 4, 2) := dk_21 4 (dk_at dksX4_reachesBack_7 17 rfl rfl)
theorem dX4_reachesBack_182 : decode cX4_reachesBack 182 = .ok (.invokevirtual 301, 3) := dk_182 1 45 (dk_at dksX4_reachesBack_7 19 rfl rfl)
theorem dX4_reachesBack_185 : decode cX4_reachesBack 185 = .ok (.if_icmp .ne 21, 3) := dk_160 0 21 (dk_at dksX4_reachesBack_8 0 rfl rfl)
theorem dX4_reachesBack_188 : decode cX4_reachesBack 188 = .ok (.aload_n 0, 1) := dk_42 (dk_at dksX4_reachesBack_8 3 rfl rfl)
theorem dX4_reachesBack_189 : decode cX4_reachesBack 189 = .ok (.aload_n 0, 1) := dk_42 (dk_at dksX4_reachesBack_8 4 rfl rfl)
theorem dX4_reachesBack_190 : decode cX4_reachesBack 190 = .ok (.iload_n 1, 1) := dk_27 (dk_at dksX4_reachesBack_8 5 rfl rfl)
theorem dX4_reachesBack_191 : decode cX4_reachesBack 191 = .ok (.iload 5, 2) := dk_21 5 (dk_at dksX4_reachesBack_8 6 rfl rfl)
theorem dX4_reachesBack_193 : decode cX4_reachesBack 193 = .ok (.aload_n 0, 1) := dk_42 (dk_at dksX4_reachesBack_8 8 rfl rfl)
theorem dX4_reachesBack_194 : decode cX4_reachesBack 194 = .ok (.iload 4, 2) := dk_21 4 (dk_at dksX4_reachesBack_8 9 rfl rfl)
theorem dX4_reachesBack_196 : decode cX4_reachesBack 196 = .ok (.invokevirtual 304, 3) := dk_182 1 48 (dk_at dksX4_reachesBack_8 11 rfl rfl)
theorem dX4_reachesBack_199 : decode cX4_reachesBack 199 = .ok (.invokevirtual 418, 3) := dk_182 1 162 (dk_at dksX4_reachesBack_8 14 rfl rfl)
theorem dX4_reachesBack_202 : decode cX4_reachesBack 202 = .ok (.iload_n 3, 1) := dk_29 (dk_at dksX4_reachesBack_8 17 rfl rfl)
theorem dX4_reachesBack_203 : decode cX4_reachesBack 203 = .ok (.invokevirtual 422, 3) := dk_182 1 166 (dk_at dksX4_reachesBack_8 18 rfl rfl)
theorem dX4_reachesBack_206 : decode cX4_reachesBack 206 = .ok (.iinc 5 1, 3) := dk_132 5 1 (dk_at dksX4_reachesBack_8 21 rfl rfl)
theorem dX4_reachesBack_209 : decode cX4_reachesBack 209 = .ok (.goto (-52), 3) := dk_167 255 204 (dk_at dksX4_reachesBack_9 0 rfl rfl)
theorem dX4_reachesBack_212 : decode cX4_reachesBack 212 = .ok (.iinc 4 1, 3) := dk_132 4 1 (dk_at dksX4_reachesBack_9 3 rfl rfl)
theorem dX4_reachesBack_215 : decode cX4_reachesBack 215 = .ok (.goto (-203), 3) := dk_167 255 53 (dk_at dksX4_reachesBack_9 6 rfl rfl)
theorem dX4_reachesBack_218 : decode cX4_reachesBack 218 = .ok (.return_, 1) := dk_177 (dk_at dksX4_reachesBack_9 9 rfl rfl)
abbrev cX4_moved : ByteArray := prog_20_method_89_code
def yX4_moved : MethodName := ⟨RX4, "moved", "(III)I"⟩
def dkwX4_moved_0 : List UInt8 := [27, 29, 42, 27, 28, 182, 1, 153, 100, 42, 28, 182, 1, 150, 104, 96, 172]
abbrev dktX4_moved_0 : List UInt8 := dkwX4_moved_0 ++ []
theorem dksX4_moved_0 : cX4_moved.data.toList.drop 0 = dktX4_moved_0 := by decide +kernel
theorem dX4_moved_0 : decode cX4_moved 0 = .ok (.iload_n 1, 1) := dk_27 (dk_at dksX4_moved_0 0 rfl rfl)
theorem dX4_moved_1 : decode cX4_moved 1 = .ok (.iload_n 3, 1) := dk_29 (dk_at dksX4_moved_0 1 rfl rfl)
theorem dX4_moved_2 : decode cX4_moved 2 = .ok (.aload_n 0, 1) := dk_42 (dk_at dksX4_moved_0 2 rfl rfl)
theorem dX4_moved_3 : decode cX4_moved 3 = .ok (.iload_n 1, 1) := dk_27 (dk_at dksX4_moved_0 3 rfl rfl)
theorem dX4_moved_4 : decode cX4_moved 4 = .ok (.iload_n 2, 1) := dk_28 (dk_at dksX4_moved_0 4 rfl rfl)
theorem dX4_moved_5 : decode cX4_moved 5 = .ok (.invokevirtual 409, 3) := dk_182 1 153 (dk_at dksX4_moved_0 5 rfl rfl)
theorem dX4_moved_8 : decode cX4_moved 8 = .ok (.isub, 1) := dk_100 (dk_at dksX4_moved_0 8 rfl rfl)
theorem dX4_moved_9 : decode cX4_moved 9 = .ok (.aload_n 0, 1) := dk_42 (dk_at dksX4_moved_0 9 rfl rfl)
theorem dX4_moved_10 : decode cX4_moved 10 = .ok (.iload_n 2, 1) := dk_28 (dk_at dksX4_moved_0 10 rfl rfl)
theorem dX4_moved_11 : decode cX4_moved 11 = .ok (.invokevirtual 406, 3) := dk_182 1 150 (dk_at dksX4_moved_0 11 rfl rfl)
theorem dX4_moved_14 : decode cX4_moved 14 = .ok (.imul, 1) := dk_104 (dk_at dksX4_moved_0 14 rfl rfl)
theorem dX4_moved_15 : decode cX4_moved 15 = .ok (.iadd, 1) := dk_96 (dk_at dksX4_moved_0 15 rfl rfl)
theorem dX4_moved_16 : decode cX4_moved 16 = .ok (.ireturn, 1) := dk_172 (dk_at dksX4_moved_0 16 rfl rfl)
abbrev cX4_codeNow : ByteArray := prog_20_method_90_code
def yX4_codeNow : MethodName := ⟨RX4, "codeNow", "()I"⟩
def dkwX4_codeNow_1 : List UInt8 := [182, 1, 150, 104, 96, 60, 132, 2, 1, 167, 255, 228, 27, 172]
abbrev dktX4_codeNow_1 : List UInt8 := dkwX4_codeNow_1 ++ []
def dkwX4_codeNow_0 : List UInt8 := [3, 60, 3, 61, 28, 42, 180, 0, 39, 5, 46, 162, 0, 24, 27, 42, 28, 3, 182, 1, 23, 42, 28]
abbrev dktX4_codeNow_0 : List UInt8 := dkwX4_codeNow_0 ++ dktX4_codeNow_1
theorem dksX4_codeNow_0 : cX4_codeNow.data.toList.drop 0 = dktX4_codeNow_0 := by decide +kernel
theorem dksX4_codeNow_1 : cX4_codeNow.data.toList.drop 23 = dktX4_codeNow_1 := dk_seg dksX4_codeNow_0 23 rfl rfl
theorem dX4_codeNow_0 : decode cX4_codeNow 0 = .ok (.iconst 0, 1) := dk_3 (dk_at dksX4_codeNow_0 0 rfl rfl)
theorem dX4_codeNow_1 : decode cX4_codeNow 1 = .ok (.istore_n 1, 1) := dk_60 (dk_at dksX4_codeNow_0 1 rfl rfl)
theorem dX4_codeNow_2 : decode cX4_codeNow 2 = .ok (.iconst 0, 1) := dk_3 (dk_at dksX4_codeNow_0 2 rfl rfl)
theorem dX4_codeNow_3 : decode cX4_codeNow 3 = .ok (.istore_n 2, 1) := dk_61 (dk_at dksX4_codeNow_0 3 rfl rfl)
theorem dX4_codeNow_4 : decode cX4_codeNow 4 = .ok (.iload_n 2, 1) := dk_28 (dk_at dksX4_codeNow_0 4 rfl rfl)
theorem dX4_codeNow_5 : decode cX4_codeNow 5 = .ok (.aload_n 0, 1) := dk_42 (dk_at dksX4_codeNow_0 5 rfl rfl)
theorem dX4_codeNow_6 : decode cX4_codeNow 6 = .ok (.getfield 39, 3) := dk_180 0 39 (dk_at dksX4_codeNow_0 6 rfl rfl)
theorem dX4_codeNow_9 : decode cX4_codeNow 9 = .ok (.iconst 2, 1) := dk_5 (dk_at dksX4_codeNow_0 9 rfl rfl)
theorem dX4_codeNow_10 : decode cX4_codeNow 10 = .ok (.iaload, 1) := dk_46 (dk_at dksX4_codeNow_0 10 rfl rfl)
theorem dX4_codeNow_11 : decode cX4_codeNow 11 = .ok (.if_icmp .ge 24, 3) := dk_162 0 24 (dk_at dksX4_codeNow_0 11 rfl rfl)
theorem dX4_codeNow_14 : decode cX4_codeNow 14 = .ok (.iload_n 1, 1) := dk_27 (dk_at dksX4_codeNow_0 14 rfl rfl)
theorem dX4_codeNow_15 : decode cX4_codeNow 15 = .ok (.aload_n 0, 1) := dk_42 (dk_at dksX4_codeNow_0 15 rfl rfl)
theorem dX4_codeNow_16 : decode cX4_codeNow 16 = .ok (.iload_n 2, 1) := dk_28 (dk_at dksX4_codeNow_0 16 rfl rfl)
theorem dX4_codeNow_17 : decode cX4_codeNow 17 = .ok (.iconst 0, 1) := dk_3 (dk_at dksX4_codeNow_0 17 rfl rfl)
theorem dX4_codeNow_18 : decode cX4_codeNow 18 = .ok (.invokevirtual 279, 3) := dk_182 1 23 (dk_at dksX4_codeNow_0 18 rfl rfl)
theorem dX4_codeNow_21 : decode cX4_codeNow 21 = .ok (.aload_n 0, 1) := dk_42 (dk_at dksX4_codeNow_0 21 rfl rfl)
theorem dX4_codeNow_22 : decode cX4_codeNow 22 = .ok (.iload_n 2, 1) := dk_28 (dk_at dksX4_codeNow_0 22 rfl rfl)
theorem dX4_codeNow_23 : decode cX4_codeNow 23 = .ok (.invokevirtual 406, 3) := dk_182 1 150 (dk_at dksX4_codeNow_1 0 rfl rfl)
theorem dX4_codeNow_26 : decode cX4_codeNow 26 = .ok (.imul, 1) := dk_104 (dk_at dksX4_codeNow_1 3 rfl rfl)
theorem dX4_codeNow_27 : decode cX4_codeNow 27 = .ok (.iadd, 1) := dk_96 (dk_at dksX4_codeNow_1 4 rfl rfl)
theorem dX4_codeNow_28 : decode cX4_codeNow 28 = .ok (.istore_n 1, 1) := dk_60 (dk_at dksX4_codeNow_1 5 rfl rfl)
theorem dX4_codeNow_29 : decode cX4_codeNow 29 = .ok (.iinc 2 1, 3) := dk_132 2 1 (dk_at dksX4_codeNow_1 6 rfl rfl)
theorem dX4_codeNow_32 : decode cX4_codeNow 32 = .ok (.goto (-28), 3) := dk_167 255 228 (dk_at dksX4_codeNow_1 9 rfl rfl)
theorem dX4_codeNow_35 : decode cX4_codeNow 35 = .ok (.iload_n 1, 1) := dk_27 (dk_at dksX4_codeNow_1 12 rfl rfl)
theorem dX4_codeNow_36 : decode cX4_codeNow 36 = .ok (.ireturn, 1) := dk_172 (dk_at dksX4_codeNow_1 13 rfl rfl)
abbrev cX4_passing : ByteArray := prog_20_method_100_code
def yX4_passing : MethodName := ⟨RX4, "passing", "(III)I"⟩
def dkwX4_passing_4 : List UInt8 := [160, 0, 10, 42, 180, 1, 193, 167, 0, 7, 42, 180, 1, 196, 172]
abbrev dktX4_passing_4 : List UInt8 := dkwX4_passing_4 ++ []
def dkwX4_passing_3 : List UInt8 := [182, 1, 199, 54, 4, 132, 5, 1, 167, 255, 239, 29, 154, 0, 10, 42, 180, 1, 190, 167, 0, 19, 29, 4]
abbrev dktX4_passing_3 : List UInt8 := dkwX4_passing_3 ++ dktX4_passing_4
def dkwX4_passing_2 : List UInt8 := [180, 0, 63, 21, 4, 46, 161, 0, 6, 16, 254, 172, 3, 54, 5, 21, 5, 28, 163, 0, 17, 42, 21, 4]
abbrev dktX4_passing_2 : List UInt8 := dkwX4_passing_2 ++ dktX4_passing_3
def dkwX4_passing_1 : List UInt8 := [16, 253, 172, 42, 27, 42, 180, 0, 39, 5, 46, 2, 182, 1, 184, 42, 182, 1, 187, 54, 4, 28, 42]
abbrev dktX4_passing_1 : List UInt8 := dkwX4_passing_1 ++ dktX4_passing_2
def dkwX4_passing_0 : List UInt8 := [42, 27, 182, 1, 181, 153, 0, 19, 28, 155, 0, 15, 29, 133, 9, 20, 1, 83, 184, 0, 128, 154, 0, 6]
abbrev dktX4_passing_0 : List UInt8 := dkwX4_passing_0 ++ dktX4_passing_1
theorem dksX4_passing_0 : cX4_passing.data.toList.drop 0 = dktX4_passing_0 := by decide +kernel
theorem dksX4_passing_1 : cX4_passing.data.toList.drop 24 = dktX4_passing_1 := dk_seg dksX4_passing_0 24 rfl rfl
theorem dksX4_passing_2 : cX4_passing.data.toList.drop 47 = dktX4_passing_2 := dk_seg dksX4_passing_1 23 rfl rfl
theorem dksX4_passing_3 : cX4_passing.data.toList.drop 71 = dktX4_passing_3 := dk_seg dksX4_passing_2 24 rfl rfl
theorem dksX4_passing_4 : cX4_passing.data.toList.drop 95 = dktX4_passing_4 := dk_seg dksX4_passing_3 24 rfl rfl
theorem dX4_passing_0 : decode cX4_passing 0 = .ok (.aload_n 0, 1) := dk_42 (dk_at dksX4_passing_0 0 rfl rfl)
theorem dX4_passing_1 : decode cX4_passing 1 = .ok (.iload_n 1, 1) := dk_27 (dk_at dksX4_passing_0 1 rfl rfl)
theorem dX4_passing_2 : decode cX4_passing 2 = .ok (.invokevirtual 437, 3) := dk_182 1 181 (dk_at dksX4_passing_0 2 rfl rfl)
theorem dX4_passing_5 : decode cX4_passing 5 = .ok (.ifCond .eq 19, 3) := dk_153 0 19 (dk_at dksX4_passing_0 5 rfl rfl)
theorem dX4_passing_8 : decode cX4_passing 8 = .ok (.iload_n 2, 1) := dk_28 (dk_at dksX4_passing_0 8 rfl rfl)
theorem dX4_passing_9 : decode cX4_passing 9 = .ok (.ifCond .lt 15, 3) := dk_155 0 15 (dk_at dksX4_passing_0 9 rfl rfl)
theorem dX4_passing_12 : decode cX4_passing 12 = .ok (.iload_n 3, 1) := dk_29 (dk_at dksX4_passing_0 12 rfl rfl)
theorem dX4_passing_13 : decode cX4_passing 13 = .ok (.i2l, 1) := dk_133 (dk_at dksX4_passing_0 13 rfl rfl)
theorem dX4_passing_14 : decode cX4_passing 14 = .ok (.lconst 0, 1) := dk_9 (dk_at dksX4_passing_0 14 rfl rfl)
theorem dX4_passing_15 : decode cX4_passing 15 = .ok (.ldc2_w 339, 3) := dk_20 1 83 (dk_at dksX4_passing_0 15 rfl rfl)
theorem dX4_passing_18 : decode cX4_passing 18 = .ok (.invokestatic 128, 3) := dk_184 0 128 (dk_at dksX4_passing_0 18 rfl rfl)
theorem dX4_passing_21 : decode cX4_passing 21 = .ok (.ifCond .ne 6, 3) := dk_154 0 6 (dk_at dksX4_passing_0 21 rfl rfl)
theorem dX4_passing_24 : decode cX4_passing 24 = .ok (.bipush (-3), 2) := dk_16 253 (dk_at dksX4_passing_1 0 rfl rfl)
theorem dX4_passing_26 : decode cX4_passing 26 = .ok (.ireturn, 1) := dk_172 (dk_at dksX4_passing_1 2 rfl rfl)
theorem dX4_passing_27 : decode cX4_passing 27 = .ok (.aload_n 0, 1) := dk_42 (dk_at dksX4_passing_1 3 rfl rfl)
theorem dX4_passing_28 : decode cX4_passing 28 = .ok (.iload_n 1, 1) := dk_27 (dk_at dksX4_passing_1 4 rfl rfl)
theorem dX4_passing_29 : decode cX4_passing 29 = .ok (.aload_n 0, 1) := dk_42 (dk_at dksX4_passing_1 5 rfl rfl)
theorem dX4_passing_30 : decode cX4_passing 30 = .ok (.getfield 39, 3) := dk_180 0 39 (dk_at dksX4_passing_1 6 rfl rfl)
theorem dX4_passing_33 : decode cX4_passing 33 = .ok (.iconst 2, 1) := dk_5 (dk_at dksX4_passing_1 9 rfl rfl)
theorem dX4_passing_34 : decode cX4_passing 34 = .ok (.iaload, 1) := dk_46 (dk_at dksX4_passing_1 10 rfl rfl)
theorem dX4_passing_35 : decode cX4_passing 35 = .ok (.iconst (-1), 1) := dk_2 (dk_at dksX4_passing_1 11 rfl rfl)
theorem dX4_passing_36 : decode cX4_passing 36 = .ok (.invokevirtual 440, 3) := dk_182 1 184 (dk_at dksX4_passing_1 12 rfl rfl)
theorem dX4_passing_39 : decode cX4_passing 39 = .ok (.aload_n 0, 1) := dk_42 (dk_at dksX4_passing_1 15 rfl rfl)
theorem dX4_passing_40 : decode cX4_passing 40 = .ok (.invokevirtual 443, 3) := dk_182 1 187 (dk_at dksX4_passing_1 16 rfl rfl)
theorem dX4_passing_43 : decode cX4_passing 43 = .ok (.istore 4, 2) := dk_54 4 (dk_at dksX4_passing_1 19 rfl rfl)
theorem dX4_passing_45 : decode cX4_passing 45 = .ok (.iload_n 2, 1) := dk_28 (dk_at dksX4_passing_1 21 rfl rfl)
theorem dX4_passing_46 : decode cX4_passing 46 = .ok (.aload_n 0, 1) := dk_42 (dk_at dksX4_passing_1 22 rfl rfl)
theorem dX4_passing_47 : decode cX4_passing 47 = .ok (.getfield 63, 3) := dk_180 0 63 (dk_at dksX4_passing_2 0 rfl rfl)
theorem dX4_passing_50 : decode cX4_passing 50 = .ok (.iload 4, 2) := dk_21 4 (dk_at dksX4_passing_2 3 rfl rfl)
theorem dX4_passing_52 : decode cX4_passing 52 = .ok (.iaload, 1) := dk_46 (dk_at dksX4_passing_2 5 rfl rfl)
theorem dX4_passing_53 : decode cX4_passing 53 = .ok (.if_icmp .lt 6, 3) := dk_161 0 6 (dk_at dksX4_passing_2 6 rfl rfl)
theorem dX4_passing_56 : decode cX4_passing 56 = .ok (.bipush (-2), 2) := dk_16 254 (dk_at dksX4_passing_2 9 rfl rfl)
theorem dX4_passing_58 : decode cX4_passing 58 = .ok (.ireturn, 1) := dk_172 (dk_at dksX4_passing_2 11 rfl rfl)
theorem dX4_passing_59 : decode cX4_passing 59 = .ok (.iconst 0, 1) := dk_3 (dk_at dksX4_passing_2 12 rfl rfl)
theorem dX4_passing_60 : decode cX4_passing 60 = .ok (.istore 5, 2) := dk_54 5 (dk_at dksX4_passing_2 13 rfl rfl)
theorem dX4_passing_62 : decode cX4_passing 62 = .ok (.iload 5, 2) := dk_21 5 (dk_at dksX4_passing_2 15 rfl rfl)
theorem dX4_passing_64 : decode cX4_passing 64 = .ok (.iload_n 2, 1) := dk_28 (dk_at dksX4_passing_2 17 rfl rfl)
theorem dX4_passing_65 : decode cX4_passing 65 = .ok (.if_icmp .gt 17, 3) := dk_163 0 17 (dk_at dksX4_passing_2 18 rfl rfl)
theorem dX4_passing_68 : decode cX4_passing 68 = .ok (.aload_n 0, 1) := dk_42 (dk_at dksX4_passing_2 21 rfl rfl)
theorem dX4_passing_69 : decode cX4_passing 69 = .ok (.iload 4, 2) := dk_21 4 (dk_at dksX4_passing_2 22 rfl rfl)
theorem dX4_passing_71 : decode cX4_passing 71 = .ok (.invokevirtual 455, 3) := dk_182 1 199 (dk_at dksX4_passing_3 0 rfl rfl)
theorem dX4_passing_74 : decode cX4_passing 74 = .ok (.istore 4, 2) := dk_54 4 (dk_at dksX4_passing_3 3 rfl rfl)
theorem dX4_passing_76 : decode cX4_passing 76 = .ok (.iinc 5 1, 3) := dk_132 5 1 (dk_at dksX4_passing_3 5 rfl rfl)
theorem dX4_passing_79 : decode cX4_passing 79 = .ok (.goto (-17), 3) := dk_167 255 239 (dk_at dksX4_passing_3 8 rfl rfl)
theorem dX4_passing_82 : decode cX4_passing 82 = .ok (.iload_n 3, 1) := dk_29 (dk_at dksX4_passing_3 11 rfl rfl)
theorem dX4_passing_83 : decode cX4_passing 83 = .ok (.ifCond .ne 10, 3) := dk_154 0 10 (dk_at dksX4_passing_3 12 rfl rfl)
theorem dX4_passing_86 : decode cX4_passing 86 = .ok (.aload_n 0, 1) := dk_42 (dk_at dksX4_passing_3 15 rfl rfl)
theorem dX4_passing_87 : decode cX4_passing 87 = .ok (.getfield 446, 3) := dk_180 1 190 (dk_at dksX4_passing_3 16 rfl rfl)
theorem dX4_passing_90 : decode cX4_passing 90 = .ok (.goto 19, 3) := dk_167 0 19 (dk_at dksX4_passing_3 19 rfl rfl)
theorem dX4_passing_93 : decode cX4_passing 93 = .ok (.iload_n 3, 1) := dk_29 (dk_at dksX4_passing_3 22 rfl rfl)
theorem dX4_passing_94 : decode cX4_passing 94 = .ok (.iconst 1, 1) := dk_4 (dk_at dksX4_passing_3 23 rfl rfl)
theorem dX4_passing_95 : decode cX4_passing 95 = .ok (.if_icmp .ne 10, 3) := dk_160 0 10 (dk_at dksX4_passing_4 0 rfl rfl)
theorem dX4_passing_98 : decode cX4_passing 98 = .ok (.aload_n 0, 1) := dk_42 (dk_at dksX4_passing_4 3 rfl rfl)
theorem dX4_passing_99 : decode cX4_passing 99 = .ok (.getfield 449, 3) := dk_180 1 193 (dk_at dksX4_passing_4 4 rfl rfl)
theorem dX4_passing_102 : decode cX4_passing 102 = .ok (.goto 7, 3) := dk_167 0 7 (dk_at dksX4_passing_4 7 rfl rfl)
theorem dX4_passing_105 : decode cX4_passing 105 = .ok (.aload_n 0, 1) := dk_42 (dk_at dksX4_passing_4 10 rfl rfl)
theorem dX4_passing_106 : decode cX4_passing 106 = .ok (.getfield 452, 3) := dk_180 1 196 (dk_at dksX4_passing_4 11 rfl rfl)
theorem dX4_passing_109 : decode cX4_passing 109 = .ok (.ireturn, 1) := dk_172 (dk_at dksX4_passing_4 14 rfl rfl)
abbrev cX4_nextCode : ByteArray := prog_20_method_99_code
def yX4_nextCode : MethodName := ⟨RX4, "nextCode", "(I)I"⟩
def dkwX4_nextCode_8 : List UInt8 := [167, 255, 73, 2, 172]
abbrev dktX4_nextCode_8 : List UInt8 := dkwX4_nextCode_8 ++ []
def dkwX4_nextCode_7 : List UInt8 := [21, 5, 181, 1, 196, 21, 6, 172, 132, 5, 1, 167, 255, 148, 132, 3, 1, 167, 255, 91, 132, 2, 1]
abbrev dktX4_nextCode_7 : List UInt8 := dkwX4_nextCode_7 ++ dktX4_nextCode_8
def dkwX4_nextCode_6 : List UInt8 := [180, 0, 63, 27, 46, 4, 100, 159, 0, 6, 167, 0, 22, 42, 28, 181, 1, 190, 42, 29, 181, 1, 193, 42]
abbrev dktX4_nextCode_6 : List UInt8 := dkwX4_nextCode_6 ++ dktX4_nextCode_7
def dkwX4_nextCode_5 : List UInt8 := [42, 21, 4, 21, 5, 42, 29, 182, 1, 45, 182, 1, 162, 54, 6, 42, 180, 0, 63, 21, 6, 46, 42]
abbrev dktX4_nextCode_5 : List UInt8 := dkwX4_nextCode_5 ++ dktX4_nextCode_6
def dkwX4_nextCode_4 : List UInt8 := [182, 1, 153, 42, 29, 182, 1, 48, 159, 0, 6, 167, 0, 68, 21, 5, 156, 0, 8, 21, 4, 167, 0, 16]
abbrev dktX4_nextCode_4 : List UInt8 := dkwX4_nextCode_4 ++ dktX4_nextCode_5
def dkwX4_nextCode_3 : List UInt8 := [180, 0, 39, 5, 46, 162, 0, 103, 21, 5, 155, 0, 27, 21, 5, 28, 159, 0, 86, 42, 27, 21, 5]
abbrev dktX4_nextCode_3 : List UInt8 := dkwX4_nextCode_3 ++ dktX4_nextCode_4
def dkwX4_nextCode_2 : List UInt8 := [167, 0, 130, 42, 27, 28, 42, 29, 182, 1, 48, 182, 1, 162, 54, 4, 2, 54, 5, 21, 5, 42]
abbrev dktX4_nextCode_2 : List UInt8 := dkwX4_nextCode_2 ++ dktX4_nextCode_3
def dkwX4_nextCode_1 : List UInt8 := [42, 29, 182, 1, 54, 153, 0, 147, 42, 27, 28, 182, 1, 153, 42, 29, 182, 1, 45, 159, 0, 6]
abbrev dktX4_nextCode_1 : List UInt8 := dkwX4_nextCode_1 ++ dktX4_nextCode_2
def dkwX4_nextCode_0 : List UInt8 := [3, 61, 28, 42, 180, 0, 39, 5, 46, 162, 0, 179, 3, 62, 29, 42, 180, 0, 39, 4, 46, 162, 0, 161]
abbrev dktX4_nextCode_0 : List UInt8 := dkwX4_nextCode_0 ++ dktX4_nextCode_1
theorem dksX4_nextCode_0 : cX4_nextCode.data.toList.drop 0 = dktX4_nextCode_0 := by decide +kernel
theorem dksX4_nextCode_1 : cX4_nextCode.data.toList.drop 24 = dktX4_nextCode_1 := dk_seg dksX4_nextCode_0 24 rfl rfl
theorem dksX4_nextCode_2 : cX4_nextCode.data.toList.drop 46 = dktX4_nextCode_2 := dk_seg dksX4_nextCode_1 22 rfl rfl
theorem dksX4_nextCode_3 : cX4_nextCode.data.toList.drop 68 = dktX4_nextCode_3 := dk_seg dksX4_nextCode_2 22 rfl rfl
theorem dksX4_nextCode_4 : cX4_nextCode.data.toList.drop 91 = dktX4_nextCode_4 := dk_seg dksX4_nextCode_3 23 rfl rfl
theorem dksX4_nextCode_5 : cX4_nextCode.data.toList.drop 115 = dktX4_nextCode_5 := dk_seg dksX4_nextCode_4 24 rfl rfl
theorem dksX4_nextCode_6 : cX4_nextCode.data.toList.drop 138 = dktX4_nextCode_6 := dk_seg dksX4_nextCode_5 23 rfl rfl
theorem dksX4_nextCode_7 : cX4_nextCode.data.toList.drop 162 = dktX4_nextCode_7 := dk_seg dksX4_nextCode_6 24 rfl rfl
theorem dksX4_nextCode_8 : cX4_nextCode.data.toList.drop 185 = dktX4_nextCode_8 := dk_seg dksX4_nextCode_7 23 rfl rfl
theorem dX4_nextCode_0 : decode cX4_nextCode 0 = .ok (.iconst 0, 1) := dk_3 (dk_at dksX4_nextCode_0 0 rfl rfl)
theorem dX4_nextCode_1 : decode cX4_nextCode 1 = .ok (.istore_n 2, 1) := dk_61 (dk_at dksX4_nextCode_0 1 rfl rfl)
theorem dX4_nextCode_2 : decode cX4_nextCode 2 = .ok (.iload_n 2, 1) := dk_28 (dk_at dksX4_nextCode_0 2 rfl rfl)
theorem dX4_nextCode_3 : decode cX4_nextCode 3 = .ok (.aload_n 0, 1) := dk_42 (dk_at dksX4_nextCode_0 3 rfl rfl)
theorem dX4_nextCode_4 : decode cX4_nextCode 4 = .ok (.getfield 39, 3) := dk_180 0 39 (dk_at dksX4_nextCode_0 4 rfl rfl)
theorem dX4_nextCode_7 : decode cX4_nextCode 7 = .ok (.iconst 2, 1) := dk_5 (dk_at dksX4_nextCode_0 7 rfl rfl)
theorem dX4_nextCode_8 : decode cX4_nextCode 8 = .ok (.iaload, 1) := dk_46 (dk_at dksX4_nextCode_0 8 rfl rfl)
theorem dX4_nextCode_9 : decode cX4_nextCode 9 = .ok (.if_icmp .ge 179, 3) := dk_162 0 179 (dk_at dksX4_nextCode_0 9 rfl rfl)
theorem dX4_nextCode_12 : decode cX4_nextCode 12 = .ok (.iconst 0, 1) := dk_3 (dk_at dksX4_nextCode_0 12 rfl rfl)
theorem dX4_nextCode_13 : decode cX4_nextCode 13 = .ok (.istore_n 3, 1) := dk_62 (dk_at dksX4_nextCode_0 13 rfl rfl)
theorem dX4_nextCode_14 : decode cX4_nextCode 14 = .ok (.iload_n 3, 1) := dk_29 (dk_at dksX4_nextCode_0 14 rfl rfl)
theorem dX4_nextCode_15 : decode cX4_nextCode 15 = .ok (.aload_n 0, 1) := dk_42 (dk_at dksX4_nextCode_0 15 rfl rfl)
theorem dX4_nextCode_16 : decode cX4_nextCode 16 = .ok (.getfield 39, 3) := dk_180 0 39 (dk_at dksX4_nextCode_0 16 rfl rfl)
theorem dX4_nextCode_19 : decode cX4_nextCode 19 = .ok (.iconst 1, 1) := dk_4 (dk_at dksX4_nextCode_0 19 rfl rfl)
theorem dX4_nextCode_20 : decode cX4_nextCode 20 = .ok (.iaload, 1) := dk_46 (dk_at dksX4_nextCode_0 20 rfl rfl)
theorem dX4_nextCode_21 : decode cX4_nextCode 21 = .ok (.if_icmp .ge 161, 3) := dk_162 0 161 (dk_at dksX4_nextCode_0 21 rfl rfl)
theorem dX4_nextCode_24 : decode cX4_nextCode 24 = .ok (.aload_n 0, 1) := dk_42 (dk_at dksX4_nextCode_1 0 rfl rfl)
theorem dX4_nextCode_25 : decode cX4_nextCode 25 = .ok (.iload_n 3, 1) := dk_29 (dk_at dksX4_nextCode_1 1 rfl rfl)
theorem dX4_nextCode_26 : decode cX4_nextCode 26 = .ok (.invokevirtual 310, 3) := dk_182 1 54 (dk_at dksX4_nextCode_1 2 rfl rfl)
theorem dX4_nextCode_29 : decode cX4_nextCode 29 = .ok (.ifCond .eq 147, 3) := dk_153 0 147 (dk_at dksX4_nextCode_1 5 rfl rfl)
theorem dX4_nextCode_32 : decode cX4_nextCode 32 = .ok (.aload_n 0, 1) := dk_42 (dk_at dksX4_nextCode_1 8 rfl rfl)
theorem dX4_nextCode_33 : decode cX4_nextCode 33 = .ok (.iload_n 1, 1) := dk_27 (dk_at dksX4_nextCode_1 9 rfl rfl)
theorem dX4_nextCode_34 : decode cX4_nextCode 34 = .ok (.iload_n 2, 1) := dk_28 (dk_at dksX4_nextCode_1 10 rfl rfl)
theorem dX4_nextCode_35 : decode cX4_nextCode 35 = .ok (.invokevirtual 409, 3) := dk_182 1 153 (dk_at dksX4_nextCode_1 11 rfl rfl)
theorem dX4_nextCode_38 : decode cX4_nextCode 38 = .ok (.aload_n 0, 1) := dk_42 (dk_at dksX4_nextCode_1 14 rfl rfl)
theorem dX4_nextCode_39 : decode cX4_nextCode 39 = .ok (.iload_n 3, 1) := dk_29 (dk_at dksX4_nextCode_1 15 rfl rfl)
theorem dX4_nextCode_40 : decode cX4_nextCode 40 = .ok (.invokevirtual 301, 3) := dk_182 1 45 (dk_at dksX4_nextCode_1 16 rfl rfl)
theorem dX4_nextCode_43 : decode cX4_nextCode 43 = .ok (.if_icmp .eq 6, 3) := dk_159 0 6 (dk_at dksX4_nextCode_1 19 rfl rfl)
theorem dX4_nextCode_46 : decode cX4_nextCode 46 = .ok (.goto 130, 3) := dk_167 0 130 (dk_at dksX4_nextCode_2 0 rfl rfl)
theorem dX4_nextCode_49 : decode cX4_nextCode 49 = .ok (.aload_n 0, 1) := dk_42 (dk_at dksX4_nextCode_2 3 rfl rfl)
theorem dX4_nextCode_50 : decode cX4_nextCode 50 = .ok (.iload_n 1, 1) := dk_27 (dk_at dksX4_nextCode_2 4 rfl rfl)
theorem dX4_nextCode_51 : decode cX4_nextCode 51 = .ok (.iload_n 2, 1) := dk_28 (dk_at dksX4_nextCode_2 5 rfl rfl)
theorem dX4_nextCode_52 : decode cX4_nextCode 52 = .ok (.aload_n 0, 1) := dk_42 (dk_at dksX4_nextCode_2 6 rfl rfl)
theorem dX4_nextCode_53 : decode cX4_nextCode 53 = .ok (.iload_n 3, 1) := dk_29 (dk_at dksX4_nextCode_2 7 rfl rfl)
theorem dX4_nextCode_54 : decode cX4_nextCode 54 = .ok (.invokevirtual 304, 3) := dk_182 1 48 (dk_at dksX4_nextCode_2 8 rfl rfl)
theorem dX4_nextCode_57 : decode cX4_nextCode 57 = .ok (.invokevirtual 418, 3) := dk_182 1 162 (dk_at dksX4_nextCode_2 11 rfl rfl)
theorem dX4_nextCode_60 : decode cX4_nextCode 60 = .ok (.istore 4, 2) := dk_54 4 (dk_at dksX4_nextCode_2 14 rfl rfl)
theorem dX4_nextCode_62 : decode cX4_nextCode 62 = .ok (.iconst (-1), 1) := dk_2 (dk_at dksX4_nextCode_2 16 rfl rfl)
theorem dX4_nextCode_63 : decode cX4_nextCode 63 = .ok (.istore 5, 2) := dk_54 5 (dk_at dksX4_nextCode_2 17 rfl rfl)
theorem dX4_nextCode_65 : decode cX4_nextCode 65 = .ok (.iload 5, 2) := dk_21 5 (dk_at dksX4_nextCode_2 19 rfl rfl)
theorem dX4_nextCode_67 : decode cX4_nextCode 67 = .ok (.aload_n 0, 1) := dk_42 (dk_at dksX4_nextCode_2 21 rfl rfl)
theorem dX4_nextCode_68 : decode cX4_nextCode 68 = .ok (.getfield 39, 3) := dk_180 0 39 (dk_at dksX4_nextCode_3 0 rfl rfl)
theorem dX4_nextCode_71 : decode cX4_nextCode 71 = .ok (.iconst 2, 1) := dk_5 (dk_at dksX4_nextCode_3 3 rfl rfl)
theorem dX4_nextCode_72 : decode cX4_nextCode 72 = .ok (.iaload, 1) := dk_46 (dk_at dksX4_nextCode_3 4 rfl rfl)
theorem dX4_nextCode_73 : decode cX4_nextCode 73 = .ok (.if_icmp .ge 103, 3) := dk_162 0 103 (dk_at dksX4_nextCode_3 5 rfl rfl)
theorem dX4_nextCode_76 : decode cX4_nextCode 76 = .ok (.iload 5, 2) := dk_21 5 (dk_at dksX4_nextCode_3 8 rfl rfl)
theorem dX4_nextCode_78 : decode cX4_nextCode 78 = .ok (.ifCond .lt 27, 3) := dk_155 0 27 (dk_at dksX4_nextCode_3 10 rfl rfl)
theorem dX4_nextCode_81 : decode cX4_nextCode 81 = .ok (.iload 5, 2) := dk_21 5 (dk_at dksX4_nextCode_3 13 rfl rfl)
theorem dX4_nextCode_83 : decode cX4_nextCode 83 = .ok (.iload_n 2, 1) := dk_28 (dk_at dksX4_nextCode_3 15 rfl rfl)
theorem dX4_nextCode_84 : decode cX4_nextCode 84 = .ok (.if_icmp .eq 86, 3) := dk_159 0 86 (dk_at dksX4_nextCode_3 16 rfl rfl)
theorem dX4_nextCode_87 : decode cX4_nextCode 87 = .ok (.aload_n 0, 1) := dk_42 (dk_at dksX4_nextCode_3 19 rfl rfl)
theorem dX4_nextCode_88 : decode cX4_nextCode 88 = .ok (.iload_n 1, 1) := dk_27 (dk_at dksX4_nextCode_3 20 rfl rfl)
theorem dX4_nextCode_89 : decode cX4_nextCode 89 = .ok (.iload 5, 2) := dk_21 5 (dk_at dksX4_nextCode_3 21 rfl rfl)
theorem dX4_nextCode_91 : decode cX4_nextCode 91 = .ok (.invokevirtual 409, 3) := dk_182 1 153 (dk_at dksX4_nextCode_4 0 rfl rfl)
theorem dX4_nextCode_94 : decode cX4_nextCode 94 = .ok (.aload_n 0, 1) := dk_42 (dk_at dksX4_nextCode_4 3 rfl rfl)
theorem dX4_nextCode_95 : decode cX4_nextCode 95 = .ok (.iload_n 3, 1) := dk_29 (dk_at dksX4_nextCode_4 4 rfl rfl)
theorem dX4_nextCode_96 : decode cX4_nextCode 96 = .ok (.invokevirtual 304, 3) := dk_182 1 48 (dk_at dksX4_nextCode_4 5 rfl rfl)
theorem dX4_nextCode_99 : decode cX4_nextCode 99 = .ok (.if_icmp .eq 6, 3) := dk_159 0 6 (dk_at dksX4_nextCode_4 8 rfl rfl)
theorem dX4_nextCode_102 : decode cX4_nextCode 102 = .ok (.goto 68, 3) := dk_167 0 68 (dk_at dksX4_nextCode_4 11 rfl rfl)
theorem dX4_nextCode_105 : decode cX4_nextCode 105 = .ok (.iload 5, 2) := dk_21 5 (dk_at dksX4_nextCode_4 14 rfl rfl)
theorem dX4_nextCode_107 : decode cX4_nextCode 107 = .ok (.ifCond .ge 8, 3) := dk_156 0 8 (dk_at dksX4_nextCode_4 16 rfl rfl)
theorem dX4_nextCode_110 : decode cX4_nextCode 110 = .ok (.iload 4, 2) := dk_21 4 (dk_at dksX4_nextCode_4 19 rfl rfl)
theorem dX4_nextCode_112 : decode cX4_nextCode 112 = .ok (.goto 16, 3) := dk_167 0 16 (dk_at dksX4_nextCode_4 21 rfl rfl)
theorem dX4_nextCode_115 : decode cX4_nextCode 115 = .ok (.aload_n 0, 1) := dk_42 (dk_at dksX4_nextCode_5 0 rfl rfl)
theorem dX4_nextCode_116 : decode cX4_nextCode 116 = .ok (.iload 4, 2) := dk_21 4 (dk_at dksX4_nextCode_5 1 rfl rfl)
theorem dX4_nextCode_118 : decode cX4_nextCode 118 = .ok (.iload 5, 2) := dk_21 5 (dk_at dksX4_nextCode_5 3 rfl rfl)
theorem dX4_nextCode_120 : decode cX4_nextCode 120 = .ok (.aload_n 0, 1) := dk_42 (dk_at dksX4_nextCode_5 5 rfl rfl)
theorem dX4_nextCode_121 : decode cX4_nextCode 121 = .ok (.iload_n 3, 1) := dk_29 (dk_at dksX4_nextCode_5 6 rfl rfl)
theorem dX4_nextCode_122 : decode cX4_nextCode 122 = .ok (.invokevirtual 301, 3) := dk_182 1 45 (dk_at dksX4_nextCode_5 7 rfl rfl)
theorem dX4_nextCode_125 : decode cX4_nextCode 125 = .ok (.invokevirtual 418, 3) := dk_182 1 162 (dk_at dksX4_nextCode_5 10 rfl rfl)
theorem dX4_nextCode_128 : decode cX4_nextCode 128 = .ok (.istore 6, 2) := dk_54 6 (dk_at dksX4_nextCode_5 13 rfl rfl)
theorem dX4_nextCode_130 : decode cX4_nextCode 130 = .ok (.aload_n 0, 1) := dk_42 (dk_at dksX4_nextCode_5 15 rfl rfl)
theorem dX4_nextCode_131 : decode cX4_nextCode 131 = .ok (.getfield 63, 3) := dk_180 0 63 (dk_at dksX4_nextCode_5 16 rfl rfl)
theorem dX4_nextCode_134 : decode cX4_nextCode 134 = .ok (.iload 6, 2) := dk_21 6 (dk_at dksX4_nextCode_5 19 rfl rfl)
theorem dX4_nextCode_136 : decode cX4_nextCode 136 = .ok (.iaload, 1) := dk_46 (dk_at dksX4_nextCode_5 21 rfl rfl)
theorem dX4_nextCode_137 : decode cX4_nextCode 137 = .ok (.aload_n 0, 1) := dk_42 (dk_at dksX4_nextCode_5 22 rfl rfl)
theorem dX4_nextCode_138 : decode cX4_nextCode 138 = .ok (.getfield 63, 3) := dk_180 0 63 (dk_at dksX4_nextCode_6 0 rfl rfl)
theorem dX4_nextCode_141 : decode cX4_nextCode 141 = .ok (.iload_n 1, 1) := dk_27 (dk_at dksX4_nextCode_6 3 rfl rfl)
theorem dX4_nextCode_142 : decode cX4_nextCode 142 = .ok (.iaload, 1) := dk_46 (dk_at dksX4_nextCode_6 4 rfl rfl)
theorem dX4_nextCode_143 : decode cX4_nextCode 143 = .ok (.iconst 1, 1) := dk_4 (dk_at dksX4_nextCode_6 5 rfl rfl)
theorem dX4_nextCode_144 : decode cX4_nextCode 144 = .ok (.isub, 1) := dk_100 (dk_at dksX4_nextCode_6 6 rfl rfl)
theorem dX4_nextCode_145 : decode cX4_nextCode 145 = .ok (.if_icmp .eq 6, 3) := dk_159 0 6 (dk_at dksX4_nextCode_6 7 rfl rfl)
theorem dX4_nextCode_148 : decode cX4_nextCode 148 = .ok (.goto 22, 3) := dk_167 0 22 (dk_at dksX4_nextCode_6 10 rfl rfl)
theorem dX4_nextCode_151 : decode cX4_nextCode 151 = .ok (.aload_n 0, 1) := dk_42 (dk_at dksX4_nextCode_6 13 rfl rfl)
theorem dX4_nextCode_152 : decode cX4_nextCode 152 = .ok (.iload_n 2, 1) := dk_28 (dk_at dksX4_nextCode_6 14 rfl rfl)
theorem dX4_nextCode_153 : decode cX4_nextCode 153 = .ok (.putfield 446, 3) := dk_181 1 190 (dk_at dksX4_nextCode_6 15 rfl rfl)
theorem dX4_nextCode_156 : decode cX4_nextCode 156 = .ok (.aload_n 0, 1) := dk_42 (dk_at dksX4_nextCode_6 18 rfl rfl)
theorem dX4_nextCode_157 : decode cX4_nextCode 157 = .ok (.iload_n 3, 1) := dk_29 (dk_at dksX4_nextCode_6 19 rfl rfl)
theorem dX4_nextCode_158 : decode cX4_nextCode 158 = .ok (.putfield 449, 3) := dk_181 1 193 (dk_at dksX4_nextCode_6 20 rfl rfl)
theorem dX4_nextCode_161 : decode cX4_nextCode 161 = .ok (.aload_n 0, 1) := dk_42 (dk_at dksX4_nextCode_6 23 rfl rfl)
theorem dX4_nextCode_162 : decode cX4_nextCode 162 = .ok (.iload 5, 2) := dk_21 5 (dk_at dksX4_nextCode_7 0 rfl rfl)
theorem dX4_nextCode_164 : decode cX4_nextCode 164 = .ok (.putfield 452, 3) := dk_181 1 196 (dk_at dksX4_nextCode_7 2 rfl rfl)
theorem dX4_nextCode_167 : decode cX4_nextCode 167 = .ok (.iload 6, 2) := dk_21 6 (dk_at dksX4_nextCode_7 5 rfl rfl)
theorem dX4_nextCode_169 : decode cX4_nextCode 169 = .ok (.ireturn, 1) := dk_172 (dk_at dksX4_nextCode_7 7 rfl rfl)
theorem dX4_nextCode_170 : decode cX4_nextCode 170 = .ok (.iinc 5 1, 3) := dk_132 5 1 (dk_at dksX4_nextCode_7 8 rfl rfl)
theorem dX4_nextCode_173 : decode cX4_nextCode 173 = .ok (.goto (-108), 3) := dk_167 255 148 (dk_at dksX4_nextCode_7 11 rfl rfl)
theorem dX4_nextCode_176 : decode cX4_nextCode 176 = .ok (.iinc 3 1, 3) := dk_132 3 1 (dk_at dksX4_nextCode_7 14 rfl rfl)
theorem dX4_nextCode_179 : decode cX4_nextCode 179 = .ok (.goto (-165), 3) := dk_167 255 91 (dk_at dksX4_nextCode_7 17 rfl rfl)
theorem dX4_nextCode_182 : decode cX4_nextCode 182 = .ok (.iinc 2 1, 3) := dk_132 2 1 (dk_at dksX4_nextCode_7 20 rfl rfl)
theorem dX4_nextCode_185 : decode cX4_nextCode 185 = .ok (.goto (-183), 3) := dk_167 255 73 (dk_at dksX4_nextCode_8 0 rfl rfl)
theorem dX4_nextCode_188 : decode cX4_nextCode 188 = .ok (.iconst (-1), 1) := dk_2 (dk_at dksX4_nextCode_8 3 rfl rfl)
theorem dX4_nextCode_189 : decode cX4_nextCode 189 = .ok (.ireturn, 1) := dk_172 (dk_at dksX4_nextCode_8 4 rfl rfl)
abbrev cX4_caught : ByteArray := prog_20_method_101_code
def yX4_caught : MethodName := ⟨RX4, "caught", "(I)I"⟩
def dkwX4_caught_6 : List UInt8 := [120, 167, 0, 4, 3, 128, 61, 132, 4, 1, 167, 255, 136, 28, 172]
abbrev dktX4_caught_6 : List UInt8 := dkwX4_caught_6 ++ []
def dkwX4_caught_5 : List UInt8 := [132, 5, 1, 167, 255, 213, 42, 2, 182, 1, 178, 28, 42, 180, 0, 63, 29, 46, 156, 0, 10, 4, 21, 4]
abbrev dktX4_caught_5 : List UInt8 := dkwX4_caught_5 ++ dktX4_caught_6
def dkwX4_caught_4 : List UInt8 := [21, 4, 182, 1, 153, 42, 29, 21, 4, 182, 1, 153, 159, 0, 10, 42, 21, 5, 3, 182, 1, 166]
abbrev dktX4_caught_4 : List UInt8 := dkwX4_caught_4 ++ dktX4_caught_5
def dkwX4_caught_3 : List UInt8 := [182, 1, 172, 3, 54, 5, 21, 5, 42, 42, 180, 0, 39, 5, 46, 182, 1, 150, 162, 0, 34, 42, 21, 5]
abbrev dktX4_caught_3 : List UInt8 := dkwX4_caught_3 ++ dktX4_caught_4
def dkwX4_caught_2 : List UInt8 := [21, 4, 120, 42, 180, 0, 39, 5, 46, 2, 182, 1, 184, 167, 0, 67, 42, 42, 180, 0, 39, 5, 46]
abbrev dktX4_caught_2 : List UInt8 := dkwX4_caught_2 ++ dktX4_caught_3
def dkwX4_caught_1 : List UInt8 := [182, 1, 187, 62, 3, 54, 4, 21, 4, 42, 180, 0, 39, 5, 46, 162, 0, 115, 27, 154, 0, 21, 42, 4]
abbrev dktX4_caught_1 : List UInt8 := dkwX4_caught_1 ++ dktX4_caught_2
def dkwX4_caught_0 : List UInt8 := [42, 182, 1, 133, 153, 0, 13, 27, 133, 9, 10, 184, 0, 128, 154, 0, 5, 2, 172, 3, 61, 42]
abbrev dktX4_caught_0 : List UInt8 := dkwX4_caught_0 ++ dktX4_caught_1
theorem dksX4_caught_0 : cX4_caught.data.toList.drop 0 = dktX4_caught_0 := by decide +kernel
theorem dksX4_caught_1 : cX4_caught.data.toList.drop 22 = dktX4_caught_1 := dk_seg dksX4_caught_0 22 rfl rfl
theorem dksX4_caught_2 : cX4_caught.data.toList.drop 46 = dktX4_caught_2 := dk_seg dksX4_caught_1 24 rfl rfl
theorem dksX4_caught_3 : cX4_caught.data.toList.drop 69 = dktX4_caught_3 := dk_seg dksX4_caught_2 23 rfl rfl
theorem dksX4_caught_4 : cX4_caught.data.toList.drop 93 = dktX4_caught_4 := dk_seg dksX4_caught_3 24 rfl rfl
theorem dksX4_caught_5 : cX4_caught.data.toList.drop 115 = dktX4_caught_5 := dk_seg dksX4_caught_4 22 rfl rfl
theorem dksX4_caught_6 : cX4_caught.data.toList.drop 139 = dktX4_caught_6 := dk_seg dksX4_caught_5 24 rfl rfl
theorem dX4_caught_0 : decode cX4_caught 0 = .ok (.aload_n 0, 1) := dk_42 (dk_at dksX4_caught_0 0 rfl rfl)
theorem dX4_caught_1 : decode cX4_caught 1 = .ok (.invokevirtual 389, 3) := dk_182 1 133 (dk_at dksX4_caught_0 1 rfl rfl)
theorem dX4_caught_4 : decode cX4_caught 4 = .ok (.ifCond .eq 13, 3) := dk_153 0 13 (dk_at dksX4_caught_0 4 rfl rfl)
theorem dX4_caught_7 : decode cX4_caught 7 = .ok (.iload_n 1, 1) := dk_27 (dk_at dksX4_caught_0 7 rfl rfl)
theorem dX4_caught_8 : decode cX4_caught 8 = .ok (.i2l, 1) := dk_133 (dk_at dksX4_caught_0 8 rfl rfl)
theorem dX4_caught_9 : decode cX4_caught 9 = .ok (.lconst 0, 1) := dk_9 (dk_at dksX4_caught_0 9 rfl rfl)
theorem dX4_caught_10 : decode cX4_caught 10 = .ok (.lconst 1, 1) := dk_10 (dk_at dksX4_caught_0 10 rfl rfl)
theorem dX4_caught_11 : decode cX4_caught 11 = .ok (.invokestatic 128, 3) := dk_184 0 128 (dk_at dksX4_caught_0 11 rfl rfl)
theorem dX4_caught_14 : decode cX4_caught 14 = .ok (.ifCond .ne 5, 3) := dk_154 0 5 (dk_at dksX4_caught_0 14 rfl rfl)
theorem dX4_caught_17 : decode cX4_caught 17 = .ok (.iconst (-1), 1) := dk_2 (dk_at dksX4_caught_0 17 rfl rfl)
theorem dX4_caught_18 : decode cX4_caught 18 = .ok (.ireturn, 1) := dk_172 (dk_at dksX4_caught_0 18 rfl rfl)
theorem dX4_caught_19 : decode cX4_caught 19 = .ok (.iconst 0, 1) := dk_3 (dk_at dksX4_caught_0 19 rfl rfl)
theorem dX4_caught_20 : decode cX4_caught 20 = .ok (.istore_n 2, 1) := dk_61 (dk_at dksX4_caught_0 20 rfl rfl)
theorem dX4_caught_21 : decode cX4_caught 21 = .ok (.aload_n 0, 1) := dk_42 (dk_at dksX4_caught_0 21 rfl rfl)
theorem dX4_caught_22 : decode cX4_caught 22 = .ok (.invokevirtual 443, 3) := dk_182 1 187 (dk_at dksX4_caught_1 0 rfl rfl)
theorem dX4_caught_25 : decode cX4_caught 25 = .ok (.istore_n 3, 1) := dk_62 (dk_at dksX4_caught_1 3 rfl rfl)
theorem dX4_caught_26 : decode cX4_caught 26 = .ok (.iconst 0, 1) := dk_3 (dk_at dksX4_caught_1 4 rfl rfl)
theorem dX4_caught_27 : decode cX4_caught 27 = .ok (.istore 4, 2) := dk_54 4 (dk_at dksX4_caught_1 5 rfl rfl)
theorem dX4_caught_29 : decode cX4_caught 29 = .ok (.iload 4, 2) := dk_21 4 (dk_at dksX4_caught_1 7 rfl rfl)
theorem dX4_caught_31 : decode cX4_caught 31 = .ok (.aload_n 0, 1) := dk_42 (dk_at dksX4_caught_1 9 rfl rfl)
theorem dX4_caught_32 : decode cX4_caught 32 = .ok (.getfield 39, 3) := dk_180 0 39 (dk_at dksX4_caught_1 10 rfl rfl)
theorem dX4_caught_35 : decode cX4_caught 35 = .ok (.iconst 2, 1) := dk_5 (dk_at dksX4_caught_1 13 rfl rfl)
theorem dX4_caught_36 : decode cX4_caught 36 = .ok (.iaload, 1) := dk_46 (dk_at dksX4_caught_1 14 rfl rfl)
theorem dX4_caught_37 : decode cX4_caught 37 = .ok (.if_icmp .ge 115, 3) := dk_162 0 115 (dk_at dksX4_caught_1 15 rfl rfl)
theorem dX4_caught_40 : decode cX4_caught 40 = .ok (.iload_n 1, 1) := dk_27 (dk_at dksX4_caught_1 18 rfl rfl)
theorem dX4_caught_41 : decode cX4_caught 41 = .ok (.ifCond .ne 21, 3) := dk_154 0 21 (dk_at dksX4_caught_1 19 rfl rfl)
theorem dX4_caught_44 : decode cX4_caught 44 = .ok (.aload_n 0, 1) := dk_42 (dk_at dksX4_caught_1 22 rfl rfl)
theorem dX4_caught_45 : decode cX4_caught 45 = .ok (.iconst 1, 1) := dk_4 (dk_at dksX4_caught_1 23 rfl rfl)
theorem dX4_caught_46 : decode cX4_caught 46 = .ok (.iload 4, 2) := dk_21 4 (dk_at dksX4_caught_2 0 rfl rfl)
theorem dX4_caught_48 : decode cX4_caught 48 = .ok (.ishl, 1) := dk_120 (dk_at dksX4_caught_2 2 rfl rfl)
theorem dX4_caught_49 : decode cX4_caught 49 = .ok (.aload_n 0, 1) := dk_42 (dk_at dksX4_caught_2 3 rfl rfl)
theorem dX4_caught_50 : decode cX4_caught 50 = .ok (.getfield 39, 3) := dk_180 0 39 (dk_at dksX4_caught_2 4 rfl rfl)
theorem dX4_caught_53 : decode cX4_caught 53 = .ok (.iconst 2, 1) := dk_5 (dk_at dksX4_caught_2 7 rfl rfl)
theorem dX4_caught_54 : decode cX4_caught 54 = .ok (.iaload, 1) := dk_46 (dk_at dksX4_caught_2 8 rfl rfl)
theorem dX4_caught_55 : decode cX4_caught 55 = .ok (.iconst (-1), 1) := dk_2 (dk_at dksX4_caught_2 9 rfl rfl)
theorem dX4_caught_56 : decode cX4_caught 56 = .ok (.invokevirtual 440, 3) := dk_182 1 184 (dk_at dksX4_caught_2 10 rfl rfl)
theorem dX4_caught_59 : decode cX4_caught 59 = .ok (.goto 67, 3) := dk_167 0 67 (dk_at dksX4_caught_2 13 rfl rfl)
theorem dX4_caught_62 : decode cX4_caught 62 = .ok (.aload_n 0, 1) := dk_42 (dk_at dksX4_caught_2 16 rfl rfl)
theorem dX4_caught_63 : decode cX4_caught 63 = .ok (.aload_n 0, 1) := dk_42 (dk_at dksX4_caught_2 17 rfl rfl)
theorem dX4_caught_64 : decode cX4_caught 64 = .ok (.getfield 39, 3) := dk_180 0 39 (dk_at dksX4_caught_2 18 rfl rfl)
theorem dX4_caught_67 : decode cX4_caught 67 = .ok (.iconst 2, 1) := dk_5 (dk_at dksX4_caught_2 21 rfl rfl)
theorem dX4_caught_68 : decode cX4_caught 68 = .ok (.iaload, 1) := dk_46 (dk_at dksX4_caught_2 22 rfl rfl)
theorem dX4_caught_69 : decode cX4_caught 69 = .ok (.invokevirtual 428, 3) := dk_182 1 172 (dk_at dksX4_caught_3 0 rfl rfl)
theorem dX4_caught_72 : decode cX4_caught 72 = .ok (.iconst 0, 1) := dk_3 (dk_at dksX4_caught_3 3 rfl rfl)
theorem dX4_caught_73 : decode cX4_caught 73 = .ok (.istore 5, 2) := dk_54 5 (dk_at dksX4_caught_3 4 rfl rfl)
theorem dX4_caught_75 : decode cX4_caught 75 = .ok (.iload 5, 2) := dk_21 5 (dk_at dksX4_caught_3 6 rfl rfl)
theorem dX4_caught_77 : decode cX4_caught 77 = .ok (.aload_n 0, 1) := dk_42 (dk_at dksX4_caught_3 8 rfl rfl)
theorem dX4_caught_78 : decode cX4_caught 78 = .ok (.aload_n 0, 1) := dk_42 (dk_at dksX4_caught_3 9 rfl rfl)
theorem dX4_caught_79 : decode cX4_caught 79 = .ok (.getfield 39, 3) := dk_180 0 39 (dk_at dksX4_caught_3 10 rfl rfl)
theorem dX4_caught_82 : decode cX4_caught 82 = .ok (.iconst 2, 1) := dk_5 (dk_at dksX4_caught_3 13 rfl rfl)
theorem dX4_caught_83 : decode cX4_caught 83 = .ok (.iaload, 1) := dk_46 (dk_at dksX4_caught_3 14 rfl rfl)
theorem dX4_caught_84 : decode cX4_caught 84 = .ok (.invokevirtual 406, 3) := dk_182 1 150 (dk_at dksX4_caught_3 15 rfl rfl)
theorem dX4_caught_87 : decode cX4_caught 87 = .ok (.if_icmp .ge 34, 3) := dk_162 0 34 (dk_at dksX4_caught_3 18 rfl rfl)
theorem dX4_caught_90 : decode cX4_caught 90 = .ok (.aload_n 0, 1) := dk_42 (dk_at dksX4_caught_3 21 rfl rfl)
theorem dX4_caught_91 : decode cX4_caught 91 = .ok (.iload 5, 2) := dk_21 5 (dk_at dksX4_caught_3 22 rfl rfl)
theorem dX4_caught_93 : decode cX4_caught 93 = .ok (.iload 4, 2) := dk_21 4 (dk_at dksX4_caught_4 0 rfl rfl)
theorem dX4_caught_95 : decode cX4_caught 95 = .ok (.invokevirtual 409, 3) := dk_182 1 153 (dk_at dksX4_caught_4 2 rfl rfl)
theorem dX4_caught_98 : decode cX4_caught 98 = .ok (.aload_n 0, 1) := dk_42 (dk_at dksX4_caught_4 5 rfl rfl)
theorem dX4_caught_99 : decode cX4_caught 99 = .ok (.iload_n 3, 1) := dk_29 (dk_at dksX4_caught_4 6 rfl rfl)
theorem dX4_caught_100 : decode cX4_caught 100 = .ok (.iload 4, 2) := dk_21 4 (dk_at dksX4_caught_4 7 rfl rfl)
theorem dX4_caught_102 : decode cX4_caught 102 = .ok (.invokevirtual 409, 3) := dk_182 1 153 (dk_at dksX4_caught_4 9 rfl rfl)
theorem dX4_caught_105 : decode cX4_caught 105 = .ok (.if_icmp .eq 10, 3) := dk_159 0 10 (dk_at dksX4_caught_4 12 rfl rfl)
theorem dX4_caught_108 : decode cX4_caught 108 = .ok (.aload_n 0, 1) := dk_42 (dk_at dksX4_caught_4 15 rfl rfl)
theorem dX4_caught_109 : decode cX4_caught 109 = .ok (.iload 5, 2) := dk_21 5 (dk_at dksX4_caught_4 16 rfl rfl)
theorem dX4_caught_111 : decode cX4_caught 111 = .ok (.iconst 0, 1) := dk_3 (dk_at dksX4_caught_4 18 rfl rfl)
theorem dX4_caught_112 : decode cX4_caught 112 = .ok (.invokevirtual 422, 3) := dk_182 1 166 (dk_at dksX4_caught_4 19 rfl rfl)
theorem dX4_caught_115 : decode cX4_caught 115 = .ok (.iinc 5 1, 3) := dk_132 5 1 (dk_at dksX4_caught_5 0 rfl rfl)
theorem dX4_caught_118 : decode cX4_caught 118 = .ok (.goto (-43), 3) := dk_167 255 213 (dk_at dksX4_caught_5 3 rfl rfl)
theorem dX4_caught_121 : decode cX4_caught 121 = .ok (.aload_n 0, 1) := dk_42 (dk_at dksX4_caught_5 6 rfl rfl)
theorem dX4_caught_122 : decode cX4_caught 122 = .ok (.iconst (-1), 1) := dk_2 (dk_at dksX4_caught_5 7 rfl rfl)
theorem dX4_caught_123 : decode cX4_caught 123 = .ok (.invokevirtual 434, 3) := dk_182 1 178 (dk_at dksX4_caught_5 8 rfl rfl)
theorem dX4_caught_126 : decode cX4_caught 126 = .ok (.iload_n 2, 1) := dk_28 (dk_at dksX4_caught_5 11 rfl rfl)
theorem dX4_caught_127 : decode cX4_caught 127 = .ok (.aload_n 0, 1) := dk_42 (dk_at dksX4_caught_5 12 rfl rfl)
theorem dX4_caught_128 : decode cX4_caught 128 = .ok (.getfield 63, 3) := dk_180 0 63 (dk_at dksX4_caught_5 13 rfl rfl)
theorem dX4_caught_131 : decode cX4_caught 131 = .ok (.iload_n 3, 1) := dk_29 (dk_at dksX4_caught_5 16 rfl rfl)
theorem dX4_caught_132 : decode cX4_caught 132 = .ok (.iaload, 1) := dk_46 (dk_at dksX4_caught_5 17 rfl rfl)
theorem dX4_caught_133 : decode cX4_caught 133 = .ok (.ifCond .ge 10, 3) := dk_156 0 10 (dk_at dksX4_caught_5 18 rfl rfl)
theorem dX4_caught_136 : decode cX4_caught 136 = .ok (.iconst 1, 1) := dk_4 (dk_at dksX4_caught_5 21 rfl rfl)
theorem dX4_caught_137 : decode cX4_caught 137 = .ok (.iload 4, 2) := dk_21 4 (dk_at dksX4_caught_5 22 rfl rfl)
theorem dX4_caught_139 : decode cX4_caught 139 = .ok (.ishl, 1) := dk_120 (dk_at dksX4_caught_6 0 rfl rfl)
theorem dX4_caught_140 : decode cX4_caught 140 = .ok (.goto 4, 3) := dk_167 0 4 (dk_at dksX4_caught_6 1 rfl rfl)
theorem dX4_caught_143 : decode cX4_caught 143 = .ok (.iconst 0, 1) := dk_3 (dk_at dksX4_caught_6 4 rfl rfl)
theorem dX4_caught_144 : decode cX4_caught 144 = .ok (.ior, 1) := dk_128 (dk_at dksX4_caught_6 5 rfl rfl)
theorem dX4_caught_145 : decode cX4_caught 145 = .ok (.istore_n 2, 1) := dk_61 (dk_at dksX4_caught_6 6 rfl rfl)
theorem dX4_caught_146 : decode cX4_caught 146 = .ok (.iinc 4 1, 3) := dk_132 4 1 (dk_at dksX4_caught_6 7 rfl rfl)
theorem dX4_caught_149 : decode cX4_caught 149 = .ok (.goto (-120), 3) := dk_167 255 136 (dk_at dksX4_caught_6 10 rfl rfl)
theorem dX4_caught_152 : decode cX4_caught 152 = .ok (.iload_n 2, 1) := dk_28 (dk_at dksX4_caught_6 13 rfl rfl)
theorem dX4_caught_153 : decode cX4_caught 153 = .ok (.ireturn, 1) := dk_172 (dk_at dksX4_caught_6 14 rfl rfl)
abbrev cX4_page : ByteArray := prog_20_method_102_code
def yX4_page : MethodName := ⟨RX4, "page", "(II)I"⟩
def dkwX4_page_5 : List UInt8 := [154, 0, 7, 29, 167, 0, 5, 21, 4, 172]
abbrev dktX4_page_5 : List UInt8 := dkwX4_page_5 ++ []
def dkwX4_page_4 : List UInt8 := [21, 4, 161, 0, 6, 167, 0, 10, 21, 5, 62, 21, 6, 54, 4, 132, 5, 1, 167, 255, 191, 28]
abbrev dktX4_page_4 : List UInt8 := dkwX4_page_4 ++ dktX4_page_5
def dkwX4_page_3 : List UInt8 := [180, 0, 39, 5, 46, 182, 1, 150, 104, 96, 46, 54, 6, 21, 6, 155, 0, 24, 29, 155, 0, 13, 21, 6]
abbrev dktX4_page_3 : List UInt8 := dkwX4_page_3 ++ dktX4_page_4
def dkwX4_page_2 : List UInt8 := [21, 5, 42, 180, 0, 39, 3, 46, 162, 0, 60, 42, 180, 0, 63, 42, 182, 1, 187, 21, 5, 42, 42]
abbrev dktX4_page_2 : List UInt8 := dkwX4_page_2 ++ dktX4_page_3
def dkwX4_page_1 : List UInt8 := [16, 254, 54, 4, 42, 4, 27, 120, 42, 180, 0, 39, 5, 46, 4, 96, 2, 182, 1, 184, 3, 54, 5]
abbrev dktX4_page_1 : List UInt8 := dkwX4_page_1 ++ dktX4_page_2
def dkwX4_page_0 : List UInt8 := [42, 27, 182, 1, 72, 153, 0, 13, 28, 133, 9, 10, 184, 0, 128, 154, 0, 5, 2, 172, 16, 254, 62]
abbrev dktX4_page_0 : List UInt8 := dkwX4_page_0 ++ dktX4_page_1
theorem dksX4_page_0 : cX4_page.data.toList.drop 0 = dktX4_page_0 := by decide +kernel
theorem dksX4_page_1 : cX4_page.data.toList.drop 23 = dktX4_page_1 := dk_seg dksX4_page_0 23 rfl rfl
theorem dksX4_page_2 : cX4_page.data.toList.drop 46 = dktX4_page_2 := dk_seg dksX4_page_1 23 rfl rfl
theorem dksX4_page_3 : cX4_page.data.toList.drop 69 = dktX4_page_3 := dk_seg dksX4_page_2 23 rfl rfl
theorem dksX4_page_4 : cX4_page.data.toList.drop 93 = dktX4_page_4 := dk_seg dksX4_page_3 24 rfl rfl
theorem dksX4_page_5 : cX4_page.data.toList.drop 115 = dktX4_page_5 := dk_seg dksX4_page_4 22 rfl rfl
theorem dX4_page_0 : decode cX4_page 0 = .ok (.aload_n 0, 1) := dk_42 (dk_at dksX4_page_0 0 rfl rfl)
theorem dX4_page_1 : decode cX4_page 1 = .ok (.iload_n 1, 1) := dk_27 (dk_at dksX4_page_0 1 rfl rfl)
theorem dX4_page_2 : decode cX4_page 2 = .ok (.invokevirtual 328, 3) := dk_182 1 72 (dk_at dksX4_page_0 2 rfl rfl)
theorem dX4_page_5 : decode cX4_page 5 = .ok (.ifCond .eq 13, 3) := dk_153 0 13 (dk_at dksX4_page_0 5 rfl rfl)
theorem dX4_page_8 : decode cX4_page 8 = .ok (.iload_n 2, 1) := dk_28 (dk_at dksX4_page_0 8 rfl rfl)
theorem dX4_page_9 : decode cX4_page 9 = .ok (.i2l, 1) := dk_133 (dk_at dksX4_page_0 9 rfl rfl)
theorem dX4_page_10 : decode cX4_page 10 = .ok (.lconst 0, 1) := dk_9 (dk_at dksX4_page_0 10 rfl rfl)
theorem dX4_page_11 : decode cX4_page 11 = .ok (.lconst 1, 1) := dk_10 (dk_at dksX4_page_0 11 rfl rfl)
theorem dX4_page_12 : decode cX4_page 12 = .ok (.invokestatic 128, 3) := dk_184 0 128 (dk_at dksX4_page_0 12 rfl rfl)
theorem dX4_page_15 : decode cX4_page 15 = .ok (.ifCond .ne 5, 3) := dk_154 0 5 (dk_at dksX4_page_0 15 rfl rfl)
theorem dX4_page_18 : decode cX4_page 18 = .ok (.iconst (-1), 1) := dk_2 (dk_at dksX4_page_0 18 rfl rfl)
theorem dX4_page_19 : decode cX4_page 19 = .ok (.ireturn, 1) := dk_172 (dk_at dksX4_page_0 19 rfl rfl)
theorem dX4_page_20 : decode cX4_page 20 = .ok (.bipush (-2), 2) := dk_16 254 (dk_at dksX4_page_0 20 rfl rfl)
theorem dX4_page_22 : decode cX4_page 22 = .ok (.istore_n 3, 1) := dk_62 (dk_at dksX4_page_0 22 rfl rfl)
theorem dX4_page_23 : decode cX4_page 23 = .ok (.bipush (-2), 2) := dk_16 254 (dk_at dksX4_page_1 0 rfl rfl)
theorem dX4_page_25 : decode cX4_page 25 = .ok (.istore 4, 2) := dk_54 4 (dk_at dksX4_page_1 2 rfl rfl)
theorem dX4_page_27 : decode cX4_page 27 = .ok (.aload_n 0, 1) := dk_42 (dk_at dksX4_page_1 4 rfl rfl)
theorem dX4_page_28 : decode cX4_page 28 = .ok (.iconst 1, 1) := dk_4 (dk_at dksX4_page_1 5 rfl rfl)
theorem dX4_page_29 : decode cX4_page 29 = .ok (.iload_n 1, 1) := dk_27 (dk_at dksX4_page_1 6 rfl rfl)
theorem dX4_page_30 : decode cX4_page 30 = .ok (.ishl, 1) := dk_120 (dk_at dksX4_page_1 7 rfl rfl)
theorem dX4_page_31 : decode cX4_page 31 = .ok (.aload_n 0, 1) := dk_42 (dk_at dksX4_page_1 8 rfl rfl)
theorem dX4_page_32 : decode cX4_page 32 = .ok (.getfield 39, 3) := dk_180 0 39 (dk_at dksX4_page_1 9 rfl rfl)
theorem dX4_page_35 : decode cX4_page 35 = .ok (.iconst 2, 1) := dk_5 (dk_at dksX4_page_1 12 rfl rfl)
theorem dX4_page_36 : decode cX4_page 36 = .ok (.iaload, 1) := dk_46 (dk_at dksX4_page_1 13 rfl rfl)
theorem dX4_page_37 : decode cX4_page 37 = .ok (.iconst 1, 1) := dk_4 (dk_at dksX4_page_1 14 rfl rfl)
theorem dX4_page_38 : decode cX4_page 38 = .ok (.iadd, 1) := dk_96 (dk_at dksX4_page_1 15 rfl rfl)
theorem dX4_page_39 : decode cX4_page 39 = .ok (.iconst (-1), 1) := dk_2 (dk_at dksX4_page_1 16 rfl rfl)
theorem dX4_page_40 : decode cX4_page 40 = .ok (.invokevirtual 440, 3) := dk_182 1 184 (dk_at dksX4_page_1 17 rfl rfl)
theorem dX4_page_43 : decode cX4_page 43 = .ok (.iconst 0, 1) := dk_3 (dk_at dksX4_page_1 20 rfl rfl)
theorem dX4_page_44 : decode cX4_page 44 = .ok (.istore 5, 2) := dk_54 5 (dk_at dksX4_page_1 21 rfl rfl)
theorem dX4_page_46 : decode cX4_page 46 = .ok (.iload 5, 2) := dk_21 5 (dk_at dksX4_page_2 0 rfl rfl)
theorem dX4_page_48 : decode cX4_page 48 = .ok (.aload_n 0, 1) := dk_42 (dk_at dksX4_page_2 2 rfl rfl)
theorem dX4_page_49 : decode cX4_page 49 = .ok (.getfield 39, 3) := dk_180 0 39 (dk_at dksX4_page_2 3 rfl rfl)
theorem dX4_page_52 : decode cX4_page 52 = .ok (.iconst 0, 1) := dk_3 (dk_at dksX4_page_2 6 rfl rfl)
theorem dX4_page_53 : decode cX4_page 53 = .ok (.iaload, 1) := dk_46 (dk_at dksX4_page_2 7 rfl rfl)
theorem dX4_page_54 : decode cX4_page 54 = .ok (.if_icmp .ge 60, 3) := dk_162 0 60 (dk_at dksX4_page_2 8 rfl rfl)
theorem dX4_page_57 : decode cX4_page 57 = .ok (.aload_n 0, 1) := dk_42 (dk_at dksX4_page_2 11 rfl rfl)
theorem dX4_page_58 : decode cX4_page 58 = .ok (.getfield 63, 3) := dk_180 0 63 (dk_at dksX4_page_2 12 rfl rfl)
theorem dX4_page_61 : decode cX4_page 61 = .ok (.aload_n 0, 1) := dk_42 (dk_at dksX4_page_2 15 rfl rfl)
theorem dX4_page_62 : decode cX4_page 62 = .ok (.invokevirtual 443, 3) := dk_182 1 187 (dk_at dksX4_page_2 16 rfl rfl)
theorem dX4_page_65 : decode cX4_page 65 = .ok (.iload 5, 2) := dk_21 5 (dk_at dksX4_page_2 19 rfl rfl)
theorem dX4_page_67 : decode cX4_page 67 = .ok (.aload_n 0, 1) := dk_42 (dk_at dksX4_page_2 21 rfl rfl)
theorem dX4_page_68 : decode cX4_page 68 = .ok (.aload_n 0, 1) := dk_42 (dk_at dksX4_page_2 22 rfl rfl)
theorem dX4_page_69 : decode cX4_page 69 = .ok (.getfield 39, 3) := dk_180 0 39 (dk_at dksX4_page_3 0 rfl rfl)
theorem dX4_page_72 : decode cX4_page 72 = .ok (.iconst 2, 1) := dk_5 (dk_at dksX4_page_3 3 rfl rfl)
theorem dX4_page_73 : decode cX4_page 73 = .ok (.iaload, 1) := dk_46 (dk_at dksX4_page_3 4 rfl rfl)
theorem dX4_page_74 : decode cX4_page 74 = .ok (.invokevirtual 406, 3) := dk_182 1 150 (dk_at dksX4_page_3 5 rfl rfl)
theorem dX4_page_77 : decode cX4_page 77 = .ok (.imul, 1) := dk_104 (dk_at dksX4_page_3 8 rfl rfl)
theorem dX4_page_78 : decode cX4_page 78 = .ok (.iadd, 1) := dk_96 (dk_at dksX4_page_3 9 rfl rfl)
theorem dX4_page_79 : decode cX4_page 79 = .ok (.iaload, 1) := dk_46 (dk_at dksX4_page_3 10 rfl rfl)
theorem dX4_page_80 : decode cX4_page 80 = .ok (.istore 6, 2) := dk_54 6 (dk_at dksX4_page_3 11 rfl rfl)
theorem dX4_page_82 : decode cX4_page 82 = .ok (.iload 6, 2) := dk_21 6 (dk_at dksX4_page_3 13 rfl rfl)
theorem dX4_page_84 : decode cX4_page 84 = .ok (.ifCond .lt 24, 3) := dk_155 0 24 (dk_at dksX4_page_3 15 rfl rfl)
theorem dX4_page_87 : decode cX4_page 87 = .ok (.iload_n 3, 1) := dk_29 (dk_at dksX4_page_3 18 rfl rfl)
theorem dX4_page_88 : decode cX4_page 88 = .ok (.ifCond .lt 13, 3) := dk_155 0 13 (dk_at dksX4_page_3 19 rfl rfl)
theorem dX4_page_91 : decode cX4_page 91 = .ok (.iload 6, 2) := dk_21 6 (dk_at dksX4_page_3 22 rfl rfl)
theorem dX4_page_93 : decode cX4_page 93 = .ok (.iload 4, 2) := dk_21 4 (dk_at dksX4_page_4 0 rfl rfl)
theorem dX4_page_95 : decode cX4_page 95 = .ok (.if_icmp .lt 6, 3) := dk_161 0 6 (dk_at dksX4_page_4 2 rfl rfl)
theorem dX4_page_98 : decode cX4_page 98 = .ok (.goto 10, 3) := dk_167 0 10 (dk_at dksX4_page_4 5 rfl rfl)
theorem dX4_page_101 : decode cX4_page 101 = .ok (.iload 5, 2) := dk_21 5 (dk_at dksX4_page_4 8 rfl rfl)
theorem dX4_page_103 : decode cX4_page 103 = .ok (.istore_n 3, 1) := dk_62 (dk_at dksX4_page_4 10 rfl rfl)
theorem dX4_page_104 : decode cX4_page 104 = .ok (.iload 6, 2) := dk_21 6 (dk_at dksX4_page_4 11 rfl rfl)
theorem dX4_page_106 : decode cX4_page 106 = .ok (.istore 4, 2) := dk_54 4 (dk_at dksX4_page_4 13 rfl rfl)
theorem dX4_page_108 : decode cX4_page 108 = .ok (.iinc 5 1, 3) := dk_132 5 1 (dk_at dksX4_page_4 15 rfl rfl)
theorem dX4_page_111 : decode cX4_page 111 = .ok (.goto (-65), 3) := dk_167 255 191 (dk_at dksX4_page_4 18 rfl rfl)
theorem dX4_page_114 : decode cX4_page 114 = .ok (.iload_n 2, 1) := dk_28 (dk_at dksX4_page_4 21 rfl rfl)
theorem dX4_page_115 : decode cX4_page 115 = .ok (.ifCond .ne 7, 3) := dk_154 0 7 (dk_at dksX4_page_5 0 rfl rfl)
theorem dX4_page_118 : decode cX4_page 118 = .ok (.iload_n 3, 1) := dk_29 (dk_at dksX4_page_5 3 rfl rfl)
theorem dX4_page_119 : decode cX4_page 119 = .ok (.goto 5, 3) := dk_167 0 5 (dk_at dksX4_page_5 4 rfl rfl)
theorem dX4_page_122 : decode cX4_page 122 = .ok (.iload 4, 2) := dk_21 4 (dk_at dksX4_page_5 7 rfl rfl)
theorem dX4_page_124 : decode cX4_page 124 = .ok (.ireturn, 1) := dk_172 (dk_at dksX4_page_5 9 rfl rfl)
abbrev cX4_price : ByteArray := prog_20_method_104_code
def yX4_price : MethodName := ⟨RX4, "price", "(I)I"⟩
def dkwX4_price_5 : List UInt8 := [167, 0, 12, 42, 180, 0, 69, 42, 182, 1, 187, 46, 172]
abbrev dktX4_price_5 : List UInt8 := dkwX4_price_5 ++ []
def dkwX4_price_4 : List UInt8 := [62, 132, 4, 1, 167, 255, 225, 167, 255, 213, 42, 180, 0, 69, 42, 182, 1, 187, 46, 156, 0, 8, 16, 254]
abbrev dktX4_price_4 : List UInt8 := dkwX4_price_4 ++ dktX4_price_5
def dkwX4_price_3 : List UInt8 := [162, 0, 31, 42, 180, 0, 69, 21, 4, 46, 155, 0, 15, 42, 21, 4, 27, 182, 1, 202, 153, 0, 5, 4]
abbrev dktX4_price_3 : List UInt8 := dkwX4_price_3 ++ dktX4_price_4
def dkwX4_price_2 : List UInt8 := [2, 79, 132, 3, 1, 167, 255, 226, 4, 62, 29, 153, 0, 45, 3, 62, 3, 54, 4, 21, 4, 28]
abbrev dktX4_price_2 : List UInt8 := dkwX4_price_2 ++ dktX4_price_3
def dkwX4_price_1 : List UInt8 := [28, 162, 0, 31, 42, 180, 0, 69, 29, 42, 29, 4, 27, 120, 182, 1, 175, 153, 0, 7, 3, 167, 0, 4]
abbrev dktX4_price_1 : List UInt8 := dkwX4_price_1 ++ dktX4_price_2
def dkwX4_price_0 : List UInt8 := [42, 27, 182, 1, 72, 154, 0, 5, 2, 172, 42, 42, 180, 0, 39, 5, 46, 182, 1, 150, 61, 3, 62, 29]
abbrev dktX4_price_0 : List UInt8 := dkwX4_price_0 ++ dktX4_price_1
theorem dksX4_price_0 : cX4_price.data.toList.drop 0 = dktX4_price_0 := by decide +kernel
theorem dksX4_price_1 : cX4_price.data.toList.drop 24 = dktX4_price_1 := dk_seg dksX4_price_0 24 rfl rfl
theorem dksX4_price_2 : cX4_price.data.toList.drop 48 = dktX4_price_2 := dk_seg dksX4_price_1 24 rfl rfl
theorem dksX4_price_3 : cX4_price.data.toList.drop 70 = dktX4_price_3 := dk_seg dksX4_price_2 22 rfl rfl
theorem dksX4_price_4 : cX4_price.data.toList.drop 94 = dktX4_price_4 := dk_seg dksX4_price_3 24 rfl rfl
theorem dksX4_price_5 : cX4_price.data.toList.drop 118 = dktX4_price_5 := dk_seg dksX4_price_4 24 rfl rfl
theorem dX4_price_0 : decode cX4_price 0 = .ok (.aload_n 0, 1) := dk_42 (dk_at dksX4_price_0 0 rfl rfl)
theorem dX4_price_1 : decode cX4_price 1 = .ok (.iload_n 1, 1) := dk_27 (dk_at dksX4_price_0 1 rfl rfl)
theorem dX4_price_2 : decode cX4_price 2 = .ok (.invokevirtual 328, 3) := dk_182 1 72 (dk_at dksX4_price_0 2 rfl rfl)
theorem dX4_price_5 : decode cX4_price 5 = .ok (.ifCond .ne 5, 3) := dk_154 0 5 (dk_at dksX4_price_0 5 rfl rfl)
theorem dX4_price_8 : decode cX4_price 8 = .ok (.iconst (-1), 1) := dk_2 (dk_at dksX4_price_0 8 rfl rfl)
theorem dX4_price_9 : decode cX4_price 9 = .ok (.ireturn, 1) := dk_172 (dk_at dksX4_price_0 9 rfl rfl)
theorem dX4_price_10 : decode cX4_price 10 = .ok (.aload_n 0, 1) := dk_42 (dk_at dksX4_price_0 10 rfl rfl)
theorem dX4_price_11 : decode cX4_price 11 = .ok (.aload_n 0, 1) := dk_42 (dk_at dksX4_price_0 11 rfl rfl)
theorem dX4_price_12 : decode cX4_price 12 = .ok (.getfield 39, 3) := dk_180 0 39 (dk_at dksX4_price_0 12 rfl rfl)
theorem dX4_price_15 : decode cX4_price 15 = .ok (.iconst 2, 1) := dk_5 (dk_at dksX4_price_0 15 rfl rfl)
theorem dX4_price_16 : decode cX4_price 16 = .ok (.iaload, 1) := dk_46 (dk_at dksX4_price_0 16 rfl rfl)
theorem dX4_price_17 : decode cX4_price 17 = .ok (.invokevirtual 406, 3) := dk_182 1 150 (dk_at dksX4_price_0 17 rfl rfl)
theorem dX4_price_20 : decode cX4_price 20 = .ok (.istore_n 2, 1) := dk_61 (dk_at dksX4_price_0 20 rfl rfl)
theorem dX4_price_21 : decode cX4_price 21 = .ok (.iconst 0, 1) := dk_3 (dk_at dksX4_price_0 21 rfl rfl)
theorem dX4_price_22 : decode cX4_price 22 = .ok (.istore_n 3, 1) := dk_62 (dk_at dksX4_price_0 22 rfl rfl)
theorem dX4_price_23 : decode cX4_price 23 = .ok (.iload_n 3, 1) := dk_29 (dk_at dksX4_price_0 23 rfl rfl)
theorem dX4_price_24 : decode cX4_price 24 = .ok (.iload_n 2, 1) := dk_28 (dk_at dksX4_price_1 0 rfl rfl)
theorem dX4_price_25 : decode cX4_price 25 = .ok (.if_icmp .ge 31, 3) := dk_162 0 31 (dk_at dksX4_price_1 1 rfl rfl)
theorem dX4_price_28 : decode cX4_price 28 = .ok (.aload_n 0, 1) := dk_42 (dk_at dksX4_price_1 4 rfl rfl)
theorem dX4_price_29 : decode cX4_price 29 = .ok (.getfield 69, 3) := dk_180 0 69 (dk_at dksX4_price_1 5 rfl rfl)
theorem dX4_price_32 : decode cX4_price 32 = .ok (.iload_n 3, 1) := dk_29 (dk_at dksX4_price_1 8 rfl rfl)
theorem dX4_price_33 : decode cX4_price 33 = .ok (.aload_n 0, 1) := dk_42 (dk_at dksX4_price_1 9 rfl rfl)
theorem dX4_price_34 : decode cX4_price 34 = .ok (.iload_n 3, 1) := dk_29 (dk_at dksX4_price_1 10 rfl rfl)
theorem dX4_price_35 : decode cX4_price 35 = .ok (.iconst 1, 1) := dk_4 (dk_at dksX4_price_1 11 rfl rfl)
theorem dX4_price_36 : decode cX4_price 36 = .ok (.iload_n 1, 1) := dk_27 (dk_at dksX4_price_1 12 rfl rfl)
theorem dX4_price_37 : decode cX4_price 37 = .ok (.ishl, 1) := dk_120 (dk_at dksX4_price_1 13 rfl rfl)
theorem dX4_price_38 : decode cX4_price 38 = .ok (.invokevirtual 431, 3) := dk_182 1 175 (dk_at dksX4_price_1 14 rfl rfl)
theorem dX4_price_41 : decode cX4_price 41 = .ok (.ifCond .eq 7, 3) := dk_153 0 7 (dk_at dksX4_price_1 17 rfl rfl)
theorem dX4_price_44 : decode cX4_price 44 = .ok (.iconst 0, 1) := dk_3 (dk_at dksX4_price_1 20 rfl rfl)
theorem dX4_price_45 : decode cX4_price 45 = .ok (.goto 4, 3) := dk_167 0 4 (dk_at dksX4_price_1 21 rfl rfl)
theorem dX4_price_48 : decode cX4_price 48 = .ok (.iconst (-1), 1) := dk_2 (dk_at dksX4_price_2 0 rfl rfl)
theorem dX4_price_49 : decode cX4_price 49 = .ok (.iastore, 1) := dk_79 (dk_at dksX4_price_2 1 rfl rfl)
theorem dX4_price_50 : decode cX4_price 50 = .ok (.iinc 3 1, 3) := dk_132 3 1 (dk_at dksX4_price_2 2 rfl rfl)
theorem dX4_price_53 : decode cX4_price 53 = .ok (.goto (-30), 3) := dk_167 255 226 (dk_at dksX4_price_2 5 rfl rfl)
theorem dX4_price_56 : decode cX4_price 56 = .ok (.iconst 1, 1) := dk_4 (dk_at dksX4_price_2 8 rfl rfl)
theorem dX4_price_57 : decode cX4_price 57 = .ok (.istore_n 3, 1) := dk_62 (dk_at dksX4_price_2 9 rfl rfl)
theorem dX4_price_58 : decode cX4_price 58 = .ok (.iload_n 3, 1) := dk_29 (dk_at dksX4_price_2 10 rfl rfl)
theorem dX4_price_59 : decode cX4_price 59 = .ok (.ifCond .eq 45, 3) := dk_153 0 45 (dk_at dksX4_price_2 11 rfl rfl)
theorem dX4_price_62 : decode cX4_price 62 = .ok (.iconst 0, 1) := dk_3 (dk_at dksX4_price_2 14 rfl rfl)
theorem dX4_price_63 : decode cX4_price 63 = .ok (.istore_n 3, 1) := dk_62 (dk_at dksX4_price_2 15 rfl rfl)
theorem dX4_price_64 : decode cX4_price 64 = .ok (.iconst 0, 1) := dk_3 (dk_at dksX4_price_2 16 rfl rfl)
theorem dX4_price_65 : decode cX4_price 65 = .ok (.istore 4, 2) := dk_54 4 (dk_at dksX4_price_2 17 rfl rfl)
theorem dX4_price_67 : decode cX4_price 67 = .ok (.iload 4, 2) := dk_21 4 (dk_at dksX4_price_2 19 rfl rfl)
theorem dX4_price_69 : decode cX4_price 69 = .ok (.iload_n 2, 1) := dk_28 (dk_at dksX4_price_2 21 rfl rfl)
theorem dX4_price_70 : decode cX4_price 70 = .ok (.if_icmp .ge 31, 3) := dk_162 0 31 (dk_at dksX4_price_3 0 rfl rfl)
theorem dX4_price_73 : decode cX4_price 73 = .ok (.aload_n 0, 1) := dk_42 (dk_at dksX4_price_3 3 rfl rfl)
theorem dX4_price_74 : decode cX4_price 74 = .ok (.getfield 69, 3) := dk_180 0 69 (dk_at dksX4_price_3 4 rfl rfl)
theorem dX4_price_77 : decode cX4_price 77 = .ok (.iload 4, 2) := dk_21 4 (dk_at dksX4_price_3 7 rfl rfl)
theorem dX4_price_79 : decode cX4_price 79 = .ok (.iaload, 1) := dk_46 (dk_at dksX4_price_3 9 rfl rfl)
theorem dX4_price_80 : decode cX4_price 80 = .ok (.ifCond .lt 15, 3) := dk_155 0 15 (dk_at dksX4_price_3 10 rfl rfl)
theorem dX4_price_83 : decode cX4_price 83 = .ok (.aload_n 0, 1) := dk_42 (dk_at dksX4_price_3 13 rfl rfl)
theorem dX4_price_84 : decode cX4_price 84 = .ok (.iload 4, 2) := dk_21 4 (dk_at dksX4_price_3 14 rfl rfl)
theorem dX4_price_86 : decode cX4_price 86 = .ok (.iload_n 1, 1) := dk_27 (dk_at dksX4_price_3 16 rfl rfl)
theorem dX4_price_87 : decode cX4_price 87 = .ok (.invokevirtual 458, 3) := dk_182 1 202 (dk_at dksX4_price_3 17 rfl rfl)
theorem dX4_price_90 : decode cX4_price 90 = .ok (.ifCond .eq 5, 3) := dk_153 0 5 (dk_at dksX4_price_3 20 rfl rfl)
theorem dX4_price_93 : decode cX4_price 93 = .ok (.iconst 1, 1) := dk_4 (dk_at dksX4_price_3 23 rfl rfl)
theorem dX4_price_94 : decode cX4_price 94 = .ok (.istore_n 3, 1) := dk_62 (dk_at dksX4_price_4 0 rfl rfl)
theorem dX4_price_95 : decode cX4_price 95 = .ok (.iinc 4 1, 3) := dk_132 4 1 (dk_at dksX4_price_4 1 rfl rfl)
theorem dX4_price_98 : decode cX4_price 98 = .ok (.goto (-31), 3) := dk_167 255 225 (dk_at dksX4_price_4 4 rfl rfl)
theorem dX4_price_101 : decode cX4_price 101 = .ok (.goto (-43), 3) := dk_167 255 213 (dk_at dksX4_price_4 7 rfl rfl)
theorem dX4_price_104 : decode cX4_price 104 = .ok (.aload_n 0, 1) := dk_42 (dk_at dksX4_price_4 10 rfl rfl)
theorem dX4_price_105 : decode cX4_price 105 = .ok (.getfield 69, 3) := dk_180 0 69 (dk_at dksX4_price_4 11 rfl rfl)
theorem dX4_price_108 : decode cX4_price 108 = .ok (.aload_n 0, 1) := dk_42 (dk_at dksX4_price_4 14 rfl rfl)
theorem dX4_price_109 : decode cX4_price 109 = .ok (.invokevirtual 443, 3) := dk_182 1 187 (dk_at dksX4_price_4 15 rfl rfl)
theorem dX4_price_112 : decode cX4_price 112 = .ok (.iaload, 1) := dk_46 (dk_at dksX4_price_4 18 rfl rfl)
theorem dX4_price_113 : decode cX4_price 113 = .ok (.ifCond .ge 8, 3) := dk_156 0 8 (dk_at dksX4_price_4 19 rfl rfl)
theorem dX4_price_116 : decode cX4_price 116 = .ok (.bipush (-2), 2) := dk_16 254 (dk_at dksX4_price_4 22 rfl rfl)
theorem dX4_price_118 : decode cX4_price 118 = .ok (.goto 12, 3) := dk_167 0 12 (dk_at dksX4_price_5 0 rfl rfl)
theorem dX4_price_121 : decode cX4_price 121 = .ok (.aload_n 0, 1) := dk_42 (dk_at dksX4_price_5 3 rfl rfl)
theorem dX4_price_122 : decode cX4_price 122 = .ok (.getfield 69, 3) := dk_180 0 69 (dk_at dksX4_price_5 4 rfl rfl)
theorem dX4_price_125 : decode cX4_price 125 = .ok (.aload_n 0, 1) := dk_42 (dk_at dksX4_price_5 7 rfl rfl)
theorem dX4_price_126 : decode cX4_price 126 = .ok (.invokevirtual 443, 3) := dk_182 1 187 (dk_at dksX4_price_5 8 rfl rfl)
theorem dX4_price_129 : decode cX4_price 129 = .ok (.iaload, 1) := dk_46 (dk_at dksX4_price_5 11 rfl rfl)
theorem dX4_price_130 : decode cX4_price 130 = .ok (.ireturn, 1) := dk_172 (dk_at dksX4_price_5 12 rfl rfl)
abbrev cX4_paysBack : ByteArray := prog_20_method_103_code
def yX4_paysBack : MethodName := ⟨RX4, "paysBack", "(II)Z"⟩
def dkwX4_paysBack_9 : List UInt8 := [132, 5, 1, 167, 255, 60, 132, 4, 1, 167, 255, 40, 29, 172]
abbrev dktX4_paysBack_9 : List UInt8 := dkwX4_paysBack_9 ++ []
def dkwX4_paysBack_8 : List UInt8 := [163, 0, 6, 167, 0, 14, 42, 180, 0, 69, 21, 9, 21, 6, 79, 4, 62, 132, 8, 1, 167, 255, 149]
abbrev dktX4_paysBack_8 : List UInt8 := dkwX4_paysBack_8 ++ dktX4_paysBack_9
def dkwX4_paysBack_7 : List UInt8 := [182, 1, 162, 54, 9, 42, 180, 0, 69, 21, 9, 46, 155, 0, 18, 42, 180, 0, 69, 21, 9, 46, 21, 6]
abbrev dktX4_paysBack_7 : List UInt8 := dkwX4_paysBack_7 ++ dktX4_paysBack_8
def dkwX4_paysBack_6 : List UInt8 := [167, 0, 65, 21, 8, 156, 0, 8, 21, 7, 167, 0, 17, 42, 21, 7, 21, 8, 42, 21, 4, 182, 1, 48]
abbrev dktX4_paysBack_6 : List UInt8 := dkwX4_paysBack_6 ++ dktX4_paysBack_7
def dkwX4_paysBack_5 : List UInt8 := [21, 8, 21, 5, 159, 0, 84, 42, 27, 21, 8, 182, 1, 153, 42, 21, 4, 182, 1, 45, 159, 0, 6]
abbrev dktX4_paysBack_5 : List UInt8 := dkwX4_paysBack_5 ++ dktX4_paysBack_6
def dkwX4_paysBack_4 : List UInt8 := [182, 1, 162, 54, 7, 2, 54, 8, 21, 8, 42, 180, 0, 39, 5, 46, 162, 0, 102, 21, 8, 155, 0, 29]
abbrev dktX4_paysBack_4 : List UInt8 := dkwX4_paysBack_4 ++ dktX4_paysBack_5
def dkwX4_paysBack_3 : List UInt8 := [3, 167, 0, 10, 42, 21, 5, 5, 182, 1, 23, 96, 54, 6, 42, 27, 21, 5, 42, 21, 4, 182, 1, 45]
abbrev dktX4_paysBack_3 : List UInt8 := dkwX4_paysBack_3 ++ dktX4_paysBack_4
def dkwX4_paysBack_2 : List UInt8 := [42, 21, 4, 182, 1, 48, 159, 0, 6, 167, 0, 157, 42, 180, 0, 69, 27, 46, 21, 5, 28, 160, 0, 7]
abbrev dktX4_paysBack_2 : List UInt8 := dkwX4_paysBack_2 ++ dktX4_paysBack_3
def dkwX4_paysBack_1 : List UInt8 := [180, 0, 39, 5, 46, 162, 0, 191, 42, 21, 4, 182, 1, 54, 153, 0, 182, 42, 27, 21, 5, 182, 1, 153]
abbrev dktX4_paysBack_1 : List UInt8 := dkwX4_paysBack_1 ++ dktX4_paysBack_2
def dkwX4_paysBack_0 : List UInt8 := [3, 62, 3, 54, 4, 21, 4, 42, 180, 0, 39, 4, 46, 162, 0, 211, 3, 54, 5, 21, 5, 42]
abbrev dktX4_paysBack_0 : List UInt8 := dkwX4_paysBack_0 ++ dktX4_paysBack_1
theorem dksX4_paysBack_0 : cX4_paysBack.data.toList.drop 0 = dktX4_paysBack_0 := by decide +kernel
theorem dksX4_paysBack_1 : cX4_paysBack.data.toList.drop 22 = dktX4_paysBack_1 := dk_seg dksX4_paysBack_0 22 rfl rfl
theorem dksX4_paysBack_2 : cX4_paysBack.data.toList.drop 46 = dktX4_paysBack_2 := dk_seg dksX4_paysBack_1 24 rfl rfl
theorem dksX4_paysBack_3 : cX4_paysBack.data.toList.drop 70 = dktX4_paysBack_3 := dk_seg dksX4_paysBack_2 24 rfl rfl
theorem dksX4_paysBack_4 : cX4_paysBack.data.toList.drop 94 = dktX4_paysBack_4 := dk_seg dksX4_paysBack_3 24 rfl rfl
theorem dksX4_paysBack_5 : cX4_paysBack.data.toList.drop 118 = dktX4_paysBack_5 := dk_seg dksX4_paysBack_4 24 rfl rfl
theorem dksX4_paysBack_6 : cX4_paysBack.data.toList.drop 141 = dktX4_paysBack_6 := dk_seg dksX4_paysBack_5 23 rfl rfl
theorem dksX4_paysBack_7 : cX4_paysBack.data.toList.drop 165 = dktX4_paysBack_7 := dk_seg dksX4_paysBack_6 24 rfl rfl
theorem dksX4_paysBack_8 : cX4_paysBack.data.toList.drop 189 = dktX4_paysBack_8 := dk_seg dksX4_paysBack_7 24 rfl rfl
theorem dksX4_paysBack_9 : cX4_paysBack.data.toList.drop 212 = dktX4_paysBack_9 := dk_seg dksX4_paysBack_8 23 rfl rfl
theorem dX4_paysBack_0 : decode cX4_paysBack 0 = .ok (.iconst 0, 1) := dk_3 (dk_at dksX4_paysBack_0 0 rfl rfl)
theorem dX4_paysBack_1 : decode cX4_paysBack 1 = .ok (.istore_n 3, 1) := dk_62 (dk_at dksX4_paysBack_0 1 rfl rfl)
theorem dX4_paysBack_2 : decode cX4_paysBack 2 = .ok (.iconst 0, 1) := dk_3 (dk_at dksX4_paysBack_0 2 rfl rfl)
theorem dX4_paysBack_3 : decode cX4_paysBack 3 = .ok (.istore 4, 2) := dk_54 4 (dk_at dksX4_paysBack_0 3 rfl rfl)
theorem dX4_paysBack_5 : decode cX4_paysBack 5 = .ok (.iload 4, 2) := dk_21 4 (dk_at dksX4_paysBack_0 5 rfl rfl)
theorem dX4_paysBack_7 : decode cX4_paysBack 7 = .ok (.aload_n 0, 1) := dk_42 (dk_at dksX4_paysBack_0 7 rfl rfl)
theorem dX4_paysBack_8 : decode cX4_paysBack 8 = .ok (.getfield 39, 3) := dk_180 0 39 (dk_at dksX4_paysBack_0 8 rfl rfl)
theorem dX4_paysBack_11 : decode cX4_paysBack 11 = .ok (.iconst 1, 1) := dk_4 (dk_at dksX4_paysBack_0 11 rfl rfl)
theorem dX4_paysBack_12 : decode cX4_paysBack 12 = .ok (.iaload, 1) := dk_46 (dk_at dksX4_paysBack_0 12 rfl rfl)
theorem dX4_paysBack_13 : decode cX4_paysBack 13 = .ok (.if_icmp .ge 211, 3) := dk_162 0 211 (dk_at dksX4_paysBack_0 13 rfl rfl)
theorem dX4_paysBack_16 : decode cX4_paysBack 16 = .ok (.iconst 0, 1) := dk_3 (dk_at dksX4_paysBack_0 16 rfl rfl)
theorem dX4_paysBack_17 : decode cX4_paysBack 17 = .ok (.istore 5, 2) := dk_54 5 (dk_at dksX4_paysBack_0 17 rfl rfl)
theorem dX4_paysBack_19 : decode cX4_paysBack 19 = .ok (.iload 5, 2) := dk_21 5 (dk_at dksX4_paysBack_0 19 rfl rfl)
theorem dX4_paysBack_21 : decode cX4_paysBack 21 = .ok (.aload_n 0, 1) := dk_42 (dk_at dksX4_paysBack_0 21 rfl rfl)
theorem dX4_paysBack_22 : decode cX4_paysBack 22 = .ok (.getfield 39, 3) := dk_180 0 39 (dk_at dksX4_paysBack_1 0 rfl rfl)
theorem dX4_paysBack_25 : decode cX4_paysBack 25 = .ok (.iconst 2, 1) := dk_5 (dk_at dksX4_paysBack_1 3 rfl rfl)
theorem dX4_paysBack_26 : decode cX4_paysBack 26 = .ok (.iaload, 1) := dk_46 (dk_at dksX4_paysBack_1 4 rfl rfl)
theorem dX4_paysBack_27 : decode cX4_paysBack 27 = .ok (.if_icmp .ge 191, 3) := dk_162 0 191 (dk_at dksX4_paysBack_1 5 rfl rfl)
theorem dX4_paysBack_30 : decode cX4_paysBack 30 = .ok (.aload_n 0, 1) := dk_42 (dk_at dksX4_paysBack_1 8 rfl rfl)
theorem dX4_paysBack_31 : decode cX4_paysBack 31 = .ok (.iload 4, 2) := dk_21 4 (dk_at dksX4_paysBack_1 9 rfl rfl)
theorem dX4_paysBack_33 : decode cX4_paysBack 33 = .ok (.invokevirtual 310, 3) := dk_182 1 54 (dk_at dksX4_paysBack_1 11 rfl rfl)
theorem dX4_paysBack_36 : decode cX4_paysBack 36 = .ok (.ifCond .eq 182, 3) := dk_153 0 182 (dk_at dksX4_paysBack_1 14 rfl rfl)
theorem dX4_paysBack_39 : decode cX4_paysBack 39 = .ok (.aload_n 0, 1) := dk_42 (dk_at dksX4_paysBack_1 17 rfl rfl)
theorem dX4_paysBack_40 : decode cX4_paysBack 40 = .ok (.iload_n 1, 1) := dk_27 (dk_at dksX4_paysBack_1 18 rfl rfl)
theorem dX4_paysBack_41 : decode cX4_paysBack 41 = .ok (.iload 5, 2) := dk_21 5 (dk_at dksX4_paysBack_1 19 rfl rfl)
theorem dX4_paysBack_43 : decode cX4_paysBack 43 = .ok (.invokevirtual 409, 3) := dk_182 1 153 (dk_at dksX4_paysBack_1 21 rfl rfl)
theorem dX4_paysBack_46 : decode cX4_paysBack 46 = .ok (.aload_n 0, 1) := dk_42 (dk_at dksX4_paysBack_2 0 rfl rfl)
theorem dX4_paysBack_47 : decode cX4_paysBack 47 = .ok (.iload 4, 2) := dk_21 4 (dk_at dksX4_paysBack_2 1 rfl rfl)
theorem dX4_paysBack_49 : decode cX4_paysBack 49 = .ok (.invokevirtual 304, 3) := dk_182 1 48 (dk_at dksX4_paysBack_2 3 rfl rfl)
theorem dX4_paysBack_52 : decode cX4_paysBack 52 = .ok (.if_icmp .eq 6, 3) := dk_159 0 6 (dk_at dksX4_paysBack_2 6 rfl rfl)
theorem dX4_paysBack_55 : decode cX4_paysBack 55 = .ok (.goto 157, 3) := dk_167 0 157 (dk_at dksX4_paysBack_2 9 rfl rfl)
theorem dX4_paysBack_58 : decode cX4_paysBack 58 = .ok (.aload_n 0, 1) := dk_42 (dk_at dksX4_paysBack_2 12 rfl rfl)
theorem dX4_paysBack_59 : decode cX4_paysBack 59 = .ok (.getfield 69, 3) := dk_180 0 69 (dk_at dksX4_paysBack_2 13 rfl rfl)
theorem dX4_paysBack_62 : decode cX4_paysBack 62 = .ok (.iload_n 1, 1) := dk_27 (dk_at dksX4_paysBack_2 16 rfl rfl)
theorem dX4_paysBack_63 : decode cX4_paysBack 63 = .ok (.iaload, 1) := dk_46 (dk_at dksX4_paysBack_2 17 rfl rfl)
theorem dX4_paysBack_64 : decode cX4_paysBack 64 = .ok (.iload 5, 2) := dk_21 5 (dk_at dksX4_paysBack_2 18 rfl rfl)
theorem dX4_paysBack_66 : decode cX4_paysBack 66 = .ok (.iload_n 2, 1) := dk_28 (dk_at dksX4_paysBack_2 20 rfl rfl)
theorem dX4_paysBack_67 : decode cX4_paysBack 67 = .ok (.if_icmp .ne 7, 3) := dk_160 0 7 (dk_at dksX4_paysBack_2 21 rfl rfl)
theorem dX4_paysBack_70 : decode cX4_paysBack 70 = .ok (.iconst 0, 1) := dk_3 (dk_at dksX4_paysBack_3 0 rfl rfl)
theorem dX4_paysBack_71 : decode cX4_paysBack 71 = .ok (.goto 10, 3) := dk_167 0 10 (dk_at dksX4_paysBack_3 1 rfl rfl)
theorem dX4_paysBack_74 : decode cX4_paysBack 74 = .ok (.aload_n 0, 1) := dk_42 (dk_at dksX4_paysBack_3 4 rfl rfl)
theorem dX4_paysBack_75 : decode cX4_paysBack 75 = .ok (.iload 5, 2) := dk_21 5 (dk_at dksX4_paysBack_3 5 rfl rfl)
theorem dX4_paysBack_77 : decode cX4_paysBack 77 = .ok (.iconst 2, 1) := dk_5 (dk_at dksX4_paysBack_3 7 rfl rfl)
theorem dX4_paysBack_78 : decode cX4_paysBack 78 = .ok (.invokevirtual 279, 3) := dk_182 1 23 (dk_at dksX4_paysBack_3 8 rfl rfl)
theorem dX4_paysBack_81 : decode cX4_paysBack 81 = .ok (.iadd, 1) := dk_96 (dk_at dksX4_paysBack_3 11 rfl rfl)
theorem dX4_paysBack_82 : decode cX4_paysBack 82 = .ok (.istore 6, 2) := dk_54 6 (dk_at dksX4_paysBack_3 12 rfl rfl)
theorem dX4_paysBack_84 : decode cX4_paysBack 84 = .ok (.aload_n 0, 1) := dk_42 (dk_at dksX4_paysBack_3 14 rfl rfl)
theorem dX4_paysBack_85 : decode cX4_paysBack 85 = .ok (.iload_n 1, 1) := dk_27 (dk_at dksX4_paysBack_3 15 rfl rfl)
theorem dX4_paysBack_86 : decode cX4_paysBack 86 = .ok (.iload 5, 2) := dk_21 5 (dk_at dksX4_paysBack_3 16 rfl rfl)
theorem dX4_paysBack_88 : decode cX4_paysBack 88 = .ok (.aload_n 0, 1) := dk_42 (dk_at dksX4_paysBack_3 18 rfl rfl)
theorem dX4_paysBack_89 : decode cX4_paysBack 89 = .ok (.iload 4, 2) := dk_21 4 (dk_at dksX4_paysBack_3 19 rfl rfl)
theorem dX4_paysBack_91 : decode cX4_paysBack 91 = .ok (.invokevirtual 301, 3) := dk_182 1 45 (dk_at dksX4_paysBack_3 21 rfl rfl)
theorem dX4_paysBack_94 : decode cX4_paysBack 94 = .ok (.invokevirtual 418, 3) := dk_182 1 162 (dk_at dksX4_paysBack_4 0 rfl rfl)
theorem dX4_paysBack_97 : decode cX4_paysBack 97 = .ok (.istore 7, 2) := dk_54 7 (dk_at dksX4_paysBack_4 3 rfl rfl)
theorem dX4_paysBack_99 : decode cX4_paysBack 99 = .ok (.iconst (-1), 1) := dk_2 (dk_at dksX4_paysBack_4 5 rfl rfl)
theorem dX4_paysBack_100 : decode cX4_paysBack 100 = .ok (.istore 8, 2) := dk_54 8 (dk_at dksX4_paysBack_4 6 rfl rfl)
theorem dX4_paysBack_102 : decode cX4_paysBack 102 = .ok (.iload 8, 2) := dk_21 8 (dk_at dksX4_paysBack_4 8 rfl rfl)
theorem dX4_paysBack_104 : decode cX4_paysBack 104 = .ok (.aload_n 0, 1) := dk_42 (dk_at dksX4_paysBack_4 10 rfl rfl)
theorem dX4_paysBack_105 : decode cX4_paysBack 105 = .ok (.getfield 39, 3) := dk_180 0 39 (dk_at dksX4_paysBack_4 11 rfl rfl)
theorem dX4_paysBack_108 : decode cX4_paysBack 108 = .ok (.iconst 2, 1) := dk_5 (dk_at dksX4_paysBack_4 14 rfl rfl)
theorem dX4_paysBack_109 : decode cX4_paysBack 109 = .ok (.iaload, 1) := dk_46 (dk_at dksX4_paysBack_4 15 rfl rfl)
theorem dX4_paysBack_110 : decode cX4_paysBack 110 = .ok (.if_icmp .ge 102, 3) := dk_162 0 102 (dk_at dksX4_paysBack_4 16 rfl rfl)
theorem dX4_paysBack_113 : decode cX4_paysBack 113 = .ok (.iload 8, 2) := dk_21 8 (dk_at dksX4_paysBack_4 19 rfl rfl)
theorem dX4_paysBack_115 : decode cX4_paysBack 115 = .ok (.ifCond .lt 29, 3) := dk_155 0 29 (dk_at dksX4_paysBack_4 21 rfl rfl)
theorem dX4_paysBack_118 : decode cX4_paysBack 118 = .ok (.iload 8, 2) := dk_21 8 (dk_at dksX4_paysBack_5 0 rfl rfl)
theorem dX4_paysBack_120 : decode cX4_paysBack 120 = .ok (.iload 5, 2) := dk_21 5 (dk_at dksX4_paysBack_5 2 rfl rfl)
theorem dX4_paysBack_122 : decode cX4_paysBack 122 = .ok (.if_icmp .eq 84, 3) := dk_159 0 84 (dk_at dksX4_paysBack_5 4 rfl rfl)
theorem dX4_paysBack_125 : decode cX4_paysBack 125 = .ok (.aload_n 0, 1) := dk_42 (dk_at dksX4_paysBack_5 7 rfl rfl)
theorem dX4_paysBack_126 : decode cX4_paysBack 126 = .ok (.iload_n 1, 1) := dk_27 (dk_at dksX4_paysBack_5 8 rfl rfl)
theorem dX4_paysBack_127 : decode cX4_paysBack 127 = .ok (.iload 8, 2) := dk_21 8 (dk_at dksX4_paysBack_5 9 rfl rfl)
theorem dX4_paysBack_129 : decode cX4_paysBack 129 = .ok (.invokevirtual 409, 3) := dk_182 1 153 (dk_at dksX4_paysBack_5 11 rfl rfl)
theorem dX4_paysBack_132 : decode cX4_paysBack 132 = .ok (.aload_n 0, 1) := dk_42 (dk_at dksX4_paysBack_5 14 rfl rfl)
theorem dX4_paysBack_133 : decode cX4_paysBack 133 = .ok (.iload 4, 2) := dk_21 4 (dk_at dksX4_paysBack_5 15 rfl rfl)
theorem dX4_paysBack_135 : decode cX4_paysBack 135 = .ok (.invokevirtual 301, 3) := dk_182 1 45 (dk_at dksX4_paysBack_5 17 rfl rfl)
theorem dX4_paysBack_138 : decode cX4_paysBack 138 = .ok (.if_icmp .eq 6, 3) := dk_159 0 6 (dk_at dksX4_paysBack_5 20 rfl rfl)
theorem dX4_paysBack_141 : decode cX4_paysBack 141 = .ok (.goto 65, 3) := dk_167 0 65 (dk_at dksX4_paysBack_6 0 rfl rfl)
theorem dX4_paysBack_144 : decode cX4_paysBack 144 = .ok (.iload 8, 2) := dk_21 8 (dk_at dksX4_paysBack_6 3 rfl rfl)
theorem dX4_paysBack_146 : decode cX4_paysBack 146 = .ok (.ifCond .ge 8, 3) := dk_156 0 8 (dk_at dksX4_paysBack_6 5 rfl rfl)
theorem dX4_paysBack_149 : decode cX4_paysBack 149 = .ok (.iload 7, 2) := dk_21 7 (dk_at dksX4_paysBack_6 8 rfl rfl)
theorem dX4_paysBack_151 : decode cX4_paysBack 151 = .ok (.goto 17, 3) := dk_167 0 17 (dk_at dksX4_paysBack_6 10 rfl rfl)
theorem dX4_paysBack_154 : decode cX4_paysBack 154 = .ok (.aload_n 0, 1) := dk_42 (dk_at dksX4_paysBack_6 13 rfl rfl)
theorem dX4_paysBack_155 : decode cX4_paysBack 155 = .ok (.iload 7, 2) := dk_21 7 (dk_at dksX4_paysBack_6 14 rfl rfl)
theorem dX4_paysBack_157 : decode cX4_paysBack 157 = .ok (.iload 8, 2) := dk_21 8 (dk_at dksX4_paysBack_6 16 rfl rfl)
theorem dX4_paysBack_159 : decode cX4_paysBack 159 = .ok (.aload_n 0, 1) := dk_42 (dk_at dksX4_paysBack_6 18 rfl rfl)
theorem dX4_paysBack_160 : decode cX4_paysBack 160 = .ok (.iload 4, 2) := dk_21 4 (dk_at dksX4_paysBack_6 19 rfl rfl)
theorem dX4_paysBack_162 : decode cX4_paysBack 162 = .ok (.invokevirtual 304, 3) := dk_182 1 48 (dk_at dksX4_paysBack_6 21 rfl rfl)
theorem dX4_paysBack_165 : decode cX4_paysBack 165 = .ok (.invokevirtual 418, 3) := dk_182 1 162 (dk_at dksX4_paysBack_7 0 rfl rfl)
theorem dX4_paysBack_168 : decode cX4_paysBack 168 = .ok (.istore 9, 2) := dk_54 9 (dk_at dksX4_paysBack_7 3 rfl rfl)
theorem dX4_paysBack_170 : decode cX4_paysBack 170 = .ok (.aload_n 0, 1) := dk_42 (dk_at dksX4_paysBack_7 5 rfl rfl)
theorem dX4_paysBack_171 : decode cX4_paysBack 171 = .ok (.getfield 69, 3) := dk_180 0 69 (dk_at dksX4_paysBack_7 6 rfl rfl)
theorem dX4_paysBack_174 : decode cX4_paysBack 174 = .ok (.iload 9, 2) := dk_21 9 (dk_at dksX4_paysBack_7 9 rfl rfl)
theorem dX4_paysBack_176 : decode cX4_paysBack 176 = .ok (.iaload, 1) := dk_46 (dk_at dksX4_paysBack_7 11 rfl rfl)
theorem dX4_paysBack_177 : decode cX4_paysBack 177 = .ok (.ifCond .lt 18, 3) := dk_155 0 18 (dk_at dksX4_paysBack_7 12 rfl rfl)
theorem dX4_paysBack_180 : decode cX4_paysBack 180 = .ok (.aload_n 0, 1) := dk_42 (dk_at dksX4_paysBack_7 15 rfl rfl)
theorem dX4_paysBack_181 : decode cX4_paysBack 181 = .ok (.getfield 69, 3) := dk_180 0 69 (dk_at dksX4_paysBack_7 16 rfl rfl)
theorem dX4_paysBack_184 : decode cX4_paysBack 184 = .ok (.iload 9, 2) := dk_21 9 (dk_at dksX4_paysBack_7 19 rfl rfl)
theorem dX4_paysBack_186 : decode cX4_paysBack 186 = .ok (.iaload, 1) := dk_46 (dk_at dksX4_paysBack_7 21 rfl rfl)
theorem dX4_paysBack_187 : decode cX4_paysBack 187 = .ok (.iload 6, 2) := dk_21 6 (dk_at dksX4_paysBack_7 22 rfl rfl)
theorem dX4_paysBack_189 : decode cX4_paysBack 189 = .ok (.if_icmp .gt 6, 3) := dk_163 0 6 (dk_at dksX4_paysBack_8 0 rfl rfl)
theorem dX4_paysBack_192 : decode cX4_paysBack 192 = .ok (.goto 14, 3) := dk_167 0 14 (dk_at dksX4_paysBack_8 3 rfl rfl)
theorem dX4_paysBack_195 : decode cX4_paysBack 195 = .ok (.aload_n 0, 1) := dk_42 (dk_at dksX4_paysBack_8 6 rfl rfl)
theorem dX4_paysBack_196 : decode cX4_paysBack 196 = .ok (.getfield 69, 3) := dk_180 0 69 (dk_at dksX4_paysBack_8 7 rfl rfl)
theorem dX4_paysBack_199 : decode cX4_paysBack 199 = .ok (.iload 9, 2) := dk_21 9 (dk_at dksX4_paysBack_8 10 rfl rfl)
theorem dX4_paysBack_201 : decode cX4_paysBack 201 = .ok (.iload 6, 2) := dk_21 6 (dk_at dksX4_paysBack_8 12 rfl rfl)
theorem dX4_paysBack_203 : decode cX4_paysBack 203 = .ok (.iastore, 1) := dk_79 (dk_at dksX4_paysBack_8 14 rfl rfl)
theorem dX4_paysBack_204 : decode cX4_paysBack 204 = .ok (.iconst 1, 1) := dk_4 (dk_at dksX4_paysBack_8 15 rfl rfl)
theorem dX4_paysBack_205 : decode cX4_paysBack 205 = .ok (.istore_n 3, 1) := dk_62 (dk_at dksX4_paysBack_8 16 rfl rfl)
theorem dX4_paysBack_206 : decode cX4_paysBack 206 = .ok (.iinc 8 1, 3) := dk_132 8 1 (dk_at dksX4_paysBack_8 17 rfl rfl)
theorem dX4_paysBack_209 : decode cX4_paysBack 209 = .ok (.goto (-107), 3) := dk_167 255 149 (dk_at dksX4_paysBack_8 20 rfl rfl)
theorem dX4_paysBack_212 : decode cX4_paysBack 212 = .ok (.iinc 5 1, 3) := dk_132 5 1 (dk_at dksX4_paysBack_9 0 rfl rfl)
theorem dX4_paysBack_215 : decode cX4_paysBack 215 = .ok (.goto (-196), 3) := dk_167 255 60 (dk_at dksX4_paysBack_9 3 rfl rfl)
theorem dX4_paysBack_218 : decode cX4_paysBack 218 = .ok (.iinc 4 1, 3) := dk_132 4 1 (dk_at dksX4_paysBack_9 6 rfl rfl)
theorem dX4_paysBack_221 : decode cX4_paysBack 221 = .ok (.goto (-216), 3) := dk_167 255 40 (dk_at dksX4_paysBack_9 9 rfl rfl)
theorem dX4_paysBack_224 : decode cX4_paysBack 224 = .ok (.iload_n 3, 1) := dk_29 (dk_at dksX4_paysBack_9 12 rfl rfl)
theorem dX4_paysBack_225 : decode cX4_paysBack 225 = .ok (.ireturn, 1) := dk_172 (dk_at dksX4_paysBack_9 13 rfl rfl)
abbrev cX4_turned : ByteArray := prog_20_method_105_code
def yX4_turned : MethodName := ⟨RX4, "turned", "(II)I"⟩
def dkwX4_turned_2 : List UInt8 := [29, 156, 0, 8, 16, 254, 167, 0, 4, 29, 172]
abbrev dktX4_turned_2 : List UInt8 := dkwX4_turned_2 ++ []
def dkwX4_turned_1 : List UInt8 := [2, 172, 42, 28, 42, 180, 0, 39, 5, 46, 27, 182, 1, 184, 42, 180, 0, 63, 42, 182, 1, 187, 46, 62]
abbrev dktX4_turned_1 : List UInt8 := dkwX4_turned_1 ++ dktX4_turned_2
def dkwX4_turned_0 : List UInt8 := [42, 28, 182, 1, 181, 153, 0, 19, 42, 27, 182, 1, 91, 153, 0, 11, 42, 27, 182, 1, 54, 154, 0, 5]
abbrev dktX4_turned_0 : List UInt8 := dkwX4_turned_0 ++ dktX4_turned_1
theorem dksX4_turned_0 : cX4_turned.data.toList.drop 0 = dktX4_turned_0 := by decide +kernel
theorem dksX4_turned_1 : cX4_turned.data.toList.drop 24 = dktX4_turned_1 := dk_seg dksX4_turned_0 24 rfl rfl
theorem dksX4_turned_2 : cX4_turned.data.toList.drop 48 = dktX4_turned_2 := dk_seg dksX4_turned_1 24 rfl rfl
theorem dX4_turned_0 : decode cX4_turned 0 = .ok (.aload_n 0, 1) := dk_42 (dk_at dksX4_turned_0 0 rfl rfl)
theorem dX4_turned_1 : decode cX4_turned 1 = .ok (.iload_n 2, 1) := dk_28 (dk_at dksX4_turned_0 1 rfl rfl)
theorem dX4_turned_2 : decode cX4_turned 2 = .ok (.invokevirtual 437, 3) := dk_182 1 181 (dk_at dksX4_turned_0 2 rfl rfl)
theorem dX4_turned_5 : decode cX4_turned 5 = .ok (.ifCond .eq 19, 3) := dk_153 0 19 (dk_at dksX4_turned_0 5 rfl rfl)
theorem dX4_turned_8 : decode cX4_turned 8 = .ok (.aload_n 0, 1) := dk_42 (dk_at dksX4_turned_0 8 rfl rfl)
theorem dX4_turned_9 : decode cX4_turned 9 = .ok (.iload_n 1, 1) := dk_27 (dk_at dksX4_turned_0 9 rfl rfl)
theorem dX4_turned_10 : decode cX4_turned 10 = .ok (.invokevirtual 347, 3) := dk_182 1 91 (dk_at dksX4_turned_0 10 rfl rfl)
theorem dX4_turned_13 : decode cX4_turned 13 = .ok (.ifCond .eq 11, 3) := dk_153 0 11 (dk_at dksX4_turned_0 13 rfl rfl)
theorem dX4_turned_16 : decode cX4_turned 16 = .ok (.aload_n 0, 1) := dk_42 (dk_at dksX4_turned_0 16 rfl rfl)
theorem dX4_turned_17 : decode cX4_turned 17 = .ok (.iload_n 1, 1) := dk_27 (dk_at dksX4_turned_0 17 rfl rfl)
theorem dX4_turned_18 : decode cX4_turned 18 = .ok (.invokevirtual 310, 3) := dk_182 1 54 (dk_at dksX4_turned_0 18 rfl rfl)
theorem dX4_turned_21 : decode cX4_turned 21 = .ok (.ifCond .ne 5, 3) := dk_154 0 5 (dk_at dksX4_turned_0 21 rfl rfl)
theorem dX4_turned_24 : decode cX4_turned 24 = .ok (.iconst (-1), 1) := dk_2 (dk_at dksX4_turned_1 0 rfl rfl)
theorem dX4_turned_25 : decode cX4_turned 25 = .ok (.ireturn, 1) := dk_172 (dk_at dksX4_turned_1 1 rfl rfl)
theorem dX4_turned_26 : decode cX4_turned 26 = .ok (.aload_n 0, 1) := dk_42 (dk_at dksX4_turned_1 2 rfl rfl)
theorem dX4_turned_27 : decode cX4_turned 27 = .ok (.iload_n 2, 1) := dk_28 (dk_at dksX4_turned_1 3 rfl rfl)
theorem dX4_turned_28 : decode cX4_turned 28 = .ok (.aload_n 0, 1) := dk_42 (dk_at dksX4_turned_1 4 rfl rfl)
theorem dX4_turned_29 : decode cX4_turned 29 = .ok (.getfield 39, 3) := dk_180 0 39 (dk_at dksX4_turned_1 5 rfl rfl)
theorem dX4_turned_32 : decode cX4_turned 32 = .ok (.iconst 2, 1) := dk_5 (dk_at dksX4_turned_1 8 rfl rfl)
theorem dX4_turned_33 : decode cX4_turned 33 = .ok (.iaload, 1) := dk_46 (dk_at dksX4_turned_1 9 rfl rfl)
theorem dX4_turned_34 : decode cX4_turned 34 = .ok (.iload_n 1, 1) := dk_27 (dk_at dksX4_turned_1 10 rfl rfl)
theorem dX4_turned_35 : decode cX4_turned 35 = .ok (.invokevirtual 440, 3) := dk_182 1 184 (dk_at dksX4_turned_1 11 rfl rfl)
theorem dX4_turned_38 : decode cX4_turned 38 = .ok (.aload_n 0, 1) := dk_42 (dk_at dksX4_turned_1 14 rfl rfl)
theorem dX4_turned_39 : decode cX4_turned 39 = .ok (.getfield 63, 3) := dk_180 0 63 (dk_at dksX4_turned_1 15 rfl rfl)
theorem dX4_turned_42 : decode cX4_turned 42 = .ok (.aload_n 0, 1) := dk_42 (dk_at dksX4_turned_1 18 rfl rfl)
theorem dX4_turned_43 : decode cX4_turned 43 = .ok (.invokevirtual 443, 3) := dk_182 1 187 (dk_at dksX4_turned_1 19 rfl rfl)
theorem dX4_turned_46 : decode cX4_turned 46 = .ok (.iaload, 1) := dk_46 (dk_at dksX4_turned_1 22 rfl rfl)
theorem dX4_turned_47 : decode cX4_turned 47 = .ok (.istore_n 3, 1) := dk_62 (dk_at dksX4_turned_1 23 rfl rfl)
theorem dX4_turned_48 : decode cX4_turned 48 = .ok (.iload_n 3, 1) := dk_29 (dk_at dksX4_turned_2 0 rfl rfl)
theorem dX4_turned_49 : decode cX4_turned 49 = .ok (.ifCond .ge 8, 3) := dk_156 0 8 (dk_at dksX4_turned_2 1 rfl rfl)
theorem dX4_turned_52 : decode cX4_turned 52 = .ok (.bipush (-2), 2) := dk_16 254 (dk_at dksX4_turned_2 4 rfl rfl)
theorem dX4_turned_54 : decode cX4_turned 54 = .ok (.goto 4, 3) := dk_167 0 4 (dk_at dksX4_turned_2 6 rfl rfl)
theorem dX4_turned_57 : decode cX4_turned 57 = .ok (.iload_n 3, 1) := dk_29 (dk_at dksX4_turned_2 9 rfl rfl)
theorem dX4_turned_58 : decode cX4_turned 58 = .ok (.ireturn, 1) := dk_172 (dk_at dksX4_turned_2 10 rfl rfl)
abbrev cX4_swap : ByteArray := prog_20_method_107_code
def yX4_swap : MethodName := ⟨RX4, "swap", "(I)I"⟩
def dkwX4_swap_6 : List UInt8 := [21, 4, 172]
abbrev dktX4_swap_6 : List UInt8 := dkwX4_swap_6 ++ []
def dkwX4_swap_5 : List UInt8 := [132, 5, 255, 167, 255, 180, 27, 154, 0, 7, 28, 167, 0, 14, 27, 4, 160, 0, 7, 29, 167, 0, 5]
abbrev dktX4_swap_5 : List UInt8 := dkwX4_swap_5 ++ dktX4_swap_6
def dkwX4_swap_4 : List UInt8 := [154, 0, 6, 167, 0, 13, 132, 2, 1, 21, 5, 62, 21, 6, 54, 4, 132, 6, 255, 167, 255, 201]
abbrev dktX4_swap_4 : List UInt8 := dkwX4_swap_4 ++ dktX4_swap_5
def dkwX4_swap_3 : List UInt8 := [182, 1, 23, 182, 1, 205, 153, 0, 32, 42, 21, 6, 42, 21, 5, 3, 182, 1, 23, 182, 1, 205]
abbrev dktX4_swap_3 : List UInt8 := dkwX4_swap_3 ++ dktX4_swap_4
def dkwX4_swap_2 : List UInt8 := [180, 0, 39, 5, 46, 4, 100, 54, 6, 21, 6, 21, 5, 164, 0, 54, 42, 21, 5, 42, 21, 6, 3]
abbrev dktX4_swap_2 : List UInt8 := dkwX4_swap_2 ++ dktX4_swap_3
def dkwX4_swap_1 : List UInt8 := [16, 254, 62, 16, 254, 54, 4, 42, 180, 0, 39, 5, 46, 4, 100, 54, 5, 21, 5, 155, 0, 77, 42]
abbrev dktX4_swap_1 : List UInt8 := dkwX4_swap_1 ++ dktX4_swap_2
def dkwX4_swap_0 : List UInt8 := [42, 182, 1, 133, 153, 0, 15, 27, 133, 9, 20, 1, 83, 184, 0, 128, 154, 0, 5, 2, 172, 3, 61]
abbrev dktX4_swap_0 : List UInt8 := dkwX4_swap_0 ++ dktX4_swap_1
theorem dksX4_swap_0 : cX4_swap.data.toList.drop 0 = dktX4_swap_0 := by decide +kernel
theorem dksX4_swap_1 : cX4_swap.data.toList.drop 23 = dktX4_swap_1 := dk_seg dksX4_swap_0 23 rfl rfl
theorem dksX4_swap_2 : cX4_swap.data.toList.drop 46 = dktX4_swap_2 := dk_seg dksX4_swap_1 23 rfl rfl
theorem dksX4_swap_3 : cX4_swap.data.toList.drop 69 = dktX4_swap_3 := dk_seg dksX4_swap_2 23 rfl rfl
theorem dksX4_swap_4 : cX4_swap.data.toList.drop 91 = dktX4_swap_4 := dk_seg dksX4_swap_3 22 rfl rfl
theorem dksX4_swap_5 : cX4_swap.data.toList.drop 113 = dktX4_swap_5 := dk_seg dksX4_swap_4 22 rfl rfl
theorem dksX4_swap_6 : cX4_swap.data.toList.drop 136 = dktX4_swap_6 := dk_seg dksX4_swap_5 23 rfl rfl
theorem dX4_swap_0 : decode cX4_swap 0 = .ok (.aload_n 0, 1) := dk_42 (dk_at dksX4_swap_0 0 rfl rfl)
theorem dX4_swap_1 : decode cX4_swap 1 = .ok (.invokevirtual 389, 3) := dk_182 1 133 (dk_at dksX4_swap_0 1 rfl rfl)
theorem dX4_swap_4 : decode cX4_swap 4 = .ok (.ifCond .eq 15, 3) := dk_153 0 15 (dk_at dksX4_swap_0 4 rfl rfl)
theorem dX4_swap_7 : decode cX4_swap 7 = .ok (.iload_n 1, 1) := dk_27 (dk_at dksX4_swap_0 7 rfl rfl)
theorem dX4_swap_8 : decode cX4_swap 8 = .ok (.i2l, 1) := dk_133 (dk_at dksX4_swap_0 8 rfl rfl)
theorem dX4_swap_9 : decode cX4_swap 9 = .ok (.lconst 0, 1) := dk_9 (dk_at dksX4_swap_0 9 rfl rfl)
theorem dX4_swap_10 : decode cX4_swap 10 = .ok (.ldc2_w 339, 3) := dk_20 1 83 (dk_at dksX4_swap_0 10 rfl rfl)
theorem dX4_swap_13 : decode cX4_swap 13 = .ok (.invokestatic 128, 3) := dk_184 0 128 (dk_at dksX4_swap_0 13 rfl rfl)
theorem dX4_swap_16 : decode cX4_swap 16 = .ok (.ifCond .ne 5, 3) := dk_154 0 5 (dk_at dksX4_swap_0 16 rfl rfl)
theorem dX4_swap_19 : decode cX4_swap 19 = .ok (.iconst (-1), 1) := dk_2 (dk_at dksX4_swap_0 19 rfl rfl)
theorem dX4_swap_20 : decode cX4_swap 20 = .ok (.ireturn, 1) := dk_172 (dk_at dksX4_swap_0 20 rfl rfl)
theorem dX4_swap_21 : decode cX4_swap 21 = .ok (.iconst 0, 1) := dk_3 (dk_at dksX4_swap_0 21 rfl rfl)
theorem dX4_swap_22 : decode cX4_swap 22 = .ok (.istore_n 2, 1) := dk_61 (dk_at dksX4_swap_0 22 rfl rfl)
theorem dX4_swap_23 : decode cX4_swap 23 = .ok (.bipush (-2), 2) := dk_16 254 (dk_at dksX4_swap_1 0 rfl rfl)
theorem dX4_swap_25 : decode cX4_swap 25 = .ok (.istore_n 3, 1) := dk_62 (dk_at dksX4_swap_1 2 rfl rfl)
theorem dX4_swap_26 : decode cX4_swap 26 = .ok (.bipush (-2), 2) := dk_16 254 (dk_at dksX4_swap_1 3 rfl rfl)
theorem dX4_swap_28 : decode cX4_swap 28 = .ok (.istore 4, 2) := dk_54 4 (dk_at dksX4_swap_1 5 rfl rfl)
theorem dX4_swap_30 : decode cX4_swap 30 = .ok (.aload_n 0, 1) := dk_42 (dk_at dksX4_swap_1 7 rfl rfl)
theorem dX4_swap_31 : decode cX4_swap 31 = .ok (.getfield 39, 3) := dk_180 0 39 (dk_at dksX4_swap_1 8 rfl rfl)
theorem dX4_swap_34 : decode cX4_swap 34 = .ok (.iconst 2, 1) := dk_5 (dk_at dksX4_swap_1 11 rfl rfl)
theorem dX4_swap_35 : decode cX4_swap 35 = .ok (.iaload, 1) := dk_46 (dk_at dksX4_swap_1 12 rfl rfl)
theorem dX4_swap_36 : decode cX4_swap 36 = .ok (.iconst 1, 1) := dk_4 (dk_at dksX4_swap_1 13 rfl rfl)
theorem dX4_swap_37 : decode cX4_swap 37 = .ok (.isub, 1) := dk_100 (dk_at dksX4_swap_1 14 rfl rfl)
theorem dX4_swap_38 : decode cX4_swap 38 = .ok (.istore 5, 2) := dk_54 5 (dk_at dksX4_swap_1 15 rfl rfl)
theorem dX4_swap_40 : decode cX4_swap 40 = .ok (.iload 5, 2) := dk_21 5 (dk_at dksX4_swap_1 17 rfl rfl)
theorem dX4_swap_42 : decode cX4_swap 42 = .ok (.ifCond .lt 77, 3) := dk_155 0 77 (dk_at dksX4_swap_1 19 rfl rfl)
theorem dX4_swap_45 : decode cX4_swap 45 = .ok (.aload_n 0, 1) := dk_42 (dk_at dksX4_swap_1 22 rfl rfl)
theorem dX4_swap_46 : decode cX4_swap 46 = .ok (.getfield 39, 3) := dk_180 0 39 (dk_at dksX4_swap_2 0 rfl rfl)
theorem dX4_swap_49 : decode cX4_swap 49 = .ok (.iconst 2, 1) := dk_5 (dk_at dksX4_swap_2 3 rfl rfl)
theorem dX4_swap_50 : decode cX4_swap 50 = .ok (.iaload, 1) := dk_46 (dk_at dksX4_swap_2 4 rfl rfl)
theorem dX4_swap_51 : decode cX4_swap 51 = .ok (.iconst 1, 1) := dk_4 (dk_at dksX4_swap_2 5 rfl rfl)
theorem dX4_swap_52 : decode cX4_swap 52 = .ok (.isub, 1) := dk_100 (dk_at dksX4_swap_2 6 rfl rfl)
theorem dX4_swap_53 : decode cX4_swap 53 = .ok (.istore 6, 2) := dk_54 6 (dk_at dksX4_swap_2 7 rfl rfl)
theorem dX4_swap_55 : decode cX4_swap 55 = .ok (.iload 6, 2) := dk_21 6 (dk_at dksX4_swap_2 9 rfl rfl)
theorem dX4_swap_57 : decode cX4_swap 57 = .ok (.iload 5, 2) := dk_21 5 (dk_at dksX4_swap_2 11 rfl rfl)
theorem dX4_swap_59 : decode cX4_swap 59 = .ok (.if_icmp .le 54, 3) := dk_164 0 54 (dk_at dksX4_swap_2 13 rfl rfl)
theorem dX4_swap_62 : decode cX4_swap 62 = .ok (.aload_n 0, 1) := dk_42 (dk_at dksX4_swap_2 16 rfl rfl)
theorem dX4_swap_63 : decode cX4_swap 63 = .ok (.iload 5, 2) := dk_21 5 (dk_at dksX4_swap_2 17 rfl rfl)
theorem dX4_swap_65 : decode cX4_swap 65 = .ok (.aload_n 0, 1) := dk_42 (dk_at dksX4_swap_2 19 rfl rfl)
theorem dX4_swap_66 : decode cX4_swap 66 = .ok (.iload 6, 2) := dk_21 6 (dk_at dksX4_swap_2 20 rfl rfl)
theorem dX4_swap_68 : decode cX4_swap 68 = .ok (.iconst 0, 1) := dk_3 (dk_at dksX4_swap_2 22 rfl rfl)
theorem dX4_swap_69 : decode cX4_swap 69 = .ok (.invokevirtual 279, 3) := dk_182 1 23 (dk_at dksX4_swap_3 0 rfl rfl)
theorem dX4_swap_72 : decode cX4_swap 72 = .ok (.invokevirtual 461, 3) := dk_182 1 205 (dk_at dksX4_swap_3 3 rfl rfl)
theorem dX4_swap_75 : decode cX4_swap 75 = .ok (.ifCond .eq 32, 3) := dk_153 0 32 (dk_at dksX4_swap_3 6 rfl rfl)
theorem dX4_swap_78 : decode cX4_swap 78 = .ok (.aload_n 0, 1) := dk_42 (dk_at dksX4_swap_3 9 rfl rfl)
theorem dX4_swap_79 : decode cX4_swap 79 = .ok (.iload 6, 2) := dk_21 6 (dk_at dksX4_swap_3 10 rfl rfl)
theorem dX4_swap_81 : decode cX4_swap 81 = .ok (.aload_n 0, 1) := dk_42 (dk_at dksX4_swap_3 12 rfl rfl)
theorem dX4_swap_82 : decode cX4_swap 82 = .ok (.iload 5, 2) := dk_21 5 (dk_at dksX4_swap_3 13 rfl rfl)
theorem dX4_swap_84 : decode cX4_swap 84 = .ok (.iconst 0, 1) := dk_3 (dk_at dksX4_swap_3 15 rfl rfl)
theorem dX4_swap_85 : decode cX4_swap 85 = .ok (.invokevirtual 279, 3) := dk_182 1 23 (dk_at dksX4_swap_3 16 rfl rfl)
theorem dX4_swap_88 : decode cX4_swap 88 = .ok (.invokevirtual 461, 3) := dk_182 1 205 (dk_at dksX4_swap_3 19 rfl rfl)
theorem dX4_swap_91 : decode cX4_swap 91 = .ok (.ifCond .ne 6, 3) := dk_154 0 6 (dk_at dksX4_swap_4 0 rfl rfl)
theorem dX4_swap_94 : decode cX4_swap 94 = .ok (.goto 13, 3) := dk_167 0 13 (dk_at dksX4_swap_4 3 rfl rfl)
theorem dX4_swap_97 : decode cX4_swap 97 = .ok (.iinc 2 1, 3) := dk_132 2 1 (dk_at dksX4_swap_4 6 rfl rfl)
theorem dX4_swap_100 : decode cX4_swap 100 = .ok (.iload 5, 2) := dk_21 5 (dk_at dksX4_swap_4 9 rfl rfl)
theorem dX4_swap_102 : decode cX4_swap 102 = .ok (.istore_n 3, 1) := dk_62 (dk_at dksX4_swap_4 11 rfl rfl)
theorem dX4_swap_103 : decode cX4_swap 103 = .ok (.iload 6, 2) := dk_21 6 (dk_at dksX4_swap_4 12 rfl rfl)
theorem dX4_swap_105 : decode cX4_swap 105 = .ok (.istore 4, 2) := dk_54 4 (dk_at dksX4_swap_4 14 rfl rfl)
theorem dX4_swap_107 : decode cX4_swap 107 = .ok (.iinc 6 (-1), 3) := dk_132 6 255 (dk_at dksX4_swap_4 16 rfl rfl)
theorem dX4_swap_110 : decode cX4_swap 110 = .ok (.goto (-55), 3) := dk_167 255 201 (dk_at dksX4_swap_4 19 rfl rfl)
theorem dX4_swap_113 : decode cX4_swap 113 = .ok (.iinc 5 (-1), 3) := dk_132 5 255 (dk_at dksX4_swap_5 0 rfl rfl)
theorem dX4_swap_116 : decode cX4_swap 116 = .ok (.goto (-76), 3) := dk_167 255 180 (dk_at dksX4_swap_5 3 rfl rfl)
theorem dX4_swap_119 : decode cX4_swap 119 = .ok (.iload_n 1, 1) := dk_27 (dk_at dksX4_swap_5 6 rfl rfl)
theorem dX4_swap_120 : decode cX4_swap 120 = .ok (.ifCond .ne 7, 3) := dk_154 0 7 (dk_at dksX4_swap_5 7 rfl rfl)
theorem dX4_swap_123 : decode cX4_swap 123 = .ok (.iload_n 2, 1) := dk_28 (dk_at dksX4_swap_5 10 rfl rfl)
theorem dX4_swap_124 : decode cX4_swap 124 = .ok (.goto 14, 3) := dk_167 0 14 (dk_at dksX4_swap_5 11 rfl rfl)
theorem dX4_swap_127 : decode cX4_swap 127 = .ok (.iload_n 1, 1) := dk_27 (dk_at dksX4_swap_5 14 rfl rfl)
theorem dX4_swap_128 : decode cX4_swap 128 = .ok (.iconst 1, 1) := dk_4 (dk_at dksX4_swap_5 15 rfl rfl)
theorem dX4_swap_129 : decode cX4_swap 129 = .ok (.if_icmp .ne 7, 3) := dk_160 0 7 (dk_at dksX4_swap_5 16 rfl rfl)
theorem dX4_swap_132 : decode cX4_swap 132 = .ok (.iload_n 3, 1) := dk_29 (dk_at dksX4_swap_5 19 rfl rfl)
theorem dX4_swap_133 : decode cX4_swap 133 = .ok (.goto 5, 3) := dk_167 0 5 (dk_at dksX4_swap_5 20 rfl rfl)
theorem dX4_swap_136 : decode cX4_swap 136 = .ok (.iload 4, 2) := dk_21 4 (dk_at dksX4_swap_6 0 rfl rfl)
theorem dX4_swap_138 : decode cX4_swap 138 = .ok (.ireturn, 1) := dk_172 (dk_at dksX4_swap_6 2 rfl rfl)
abbrev cX4_isNearerAt : ByteArray := prog_20_method_106_code
def yX4_isNearerAt : MethodName := ⟨RX4, "isNearerAt", "(II)Z"⟩
def dkwX4_isNearerAt_1 : List UInt8 := [172]
abbrev dktX4_isNearerAt_1 : List UInt8 := dkwX4_isNearerAt_1 ++ []
def dkwX4_isNearerAt_0 : List UInt8 := [42, 28, 42, 27, 4, 182, 1, 23, 182, 1, 60, 42, 27, 182, 1, 63, 162, 0, 7, 4, 167, 0, 4, 3]
abbrev dktX4_isNearerAt_0 : List UInt8 := dkwX4_isNearerAt_0 ++ dktX4_isNearerAt_1
theorem dksX4_isNearerAt_0 : cX4_isNearerAt.data.toList.drop 0 = dktX4_isNearerAt_0 := by decide +kernel
theorem dksX4_isNearerAt_1 : cX4_isNearerAt.data.toList.drop 24 = dktX4_isNearerAt_1 := dk_seg dksX4_isNearerAt_0 24 rfl rfl
theorem dX4_isNearerAt_0 : decode cX4_isNearerAt 0 = .ok (.aload_n 0, 1) := dk_42 (dk_at dksX4_isNearerAt_0 0 rfl rfl)
theorem dX4_isNearerAt_1 : decode cX4_isNearerAt 1 = .ok (.iload_n 2, 1) := dk_28 (dk_at dksX4_isNearerAt_0 1 rfl rfl)
theorem dX4_isNearerAt_2 : decode cX4_isNearerAt 2 = .ok (.aload_n 0, 1) := dk_42 (dk_at dksX4_isNearerAt_0 2 rfl rfl)
theorem dX4_isNearerAt_3 : decode cX4_isNearerAt 3 = .ok (.iload_n 1, 1) := dk_27 (dk_at dksX4_isNearerAt_0 3 rfl rfl)
theorem dX4_isNearerAt_4 : decode cX4_isNearerAt 4 = .ok (.iconst 1, 1) := dk_4 (dk_at dksX4_isNearerAt_0 4 rfl rfl)
theorem dX4_isNearerAt_5 : decode cX4_isNearerAt 5 = .ok (.invokevirtual 279, 3) := dk_182 1 23 (dk_at dksX4_isNearerAt_0 5 rfl rfl)
theorem dX4_isNearerAt_8 : decode cX4_isNearerAt 8 = .ok (.invokevirtual 316, 3) := dk_182 1 60 (dk_at dksX4_isNearerAt_0 8 rfl rfl)
theorem dX4_isNearerAt_11 : decode cX4_isNearerAt 11 = .ok (.aload_n 0, 1) := dk_42 (dk_at dksX4_isNearerAt_0 11 rfl rfl)
theorem dX4_isNearerAt_12 : decode cX4_isNearerAt 12 = .ok (.iload_n 1, 1) := dk_27 (dk_at dksX4_isNearerAt_0 12 rfl rfl)
theorem dX4_isNearerAt_13 : decode cX4_isNearerAt 13 = .ok (.invokevirtual 319, 3) := dk_182 1 63 (dk_at dksX4_isNearerAt_0 13 rfl rfl)
theorem dX4_isNearerAt_16 : decode cX4_isNearerAt 16 = .ok (.if_icmp .ge 7, 3) := dk_162 0 7 (dk_at dksX4_isNearerAt_0 16 rfl rfl)
theorem dX4_isNearerAt_19 : decode cX4_isNearerAt 19 = .ok (.iconst 1, 1) := dk_4 (dk_at dksX4_isNearerAt_0 19 rfl rfl)
theorem dX4_isNearerAt_20 : decode cX4_isNearerAt 20 = .ok (.goto 4, 3) := dk_167 0 4 (dk_at dksX4_isNearerAt_0 20 rfl rfl)
theorem dX4_isNearerAt_23 : decode cX4_isNearerAt 23 = .ok (.iconst 0, 1) := dk_3 (dk_at dksX4_isNearerAt_0 23 rfl rfl)
theorem dX4_isNearerAt_24 : decode cX4_isNearerAt 24 = .ok (.ireturn, 1) := dk_172 (dk_at dksX4_isNearerAt_1 0 rfl rfl)
abbrev cX4_note : ByteArray := prog_20_method_108_code
def yX4_note : MethodName := ⟨RX4, "note", "(III)I"⟩
def dkwX4_note_5 : List UInt8 := [172]
abbrev dktX4_note_5 : List UInt8 := dkwX4_note_5 ++ []
def dkwX4_note_4 : List UInt8 := [21, 4, 5, 96, 29, 79, 42, 180, 0, 39, 16, 114, 92, 46, 4, 96, 79, 42, 180, 0, 39, 16, 114, 46]
abbrev dktX4_note_4 : List UInt8 := dkwX4_note_4 ++ dktX4_note_5
def dkwX4_note_3 : List UInt8 := [54, 4, 42, 180, 0, 39, 21, 4, 27, 79, 42, 180, 0, 39, 21, 4, 4, 96, 28, 79, 42, 180, 0, 39]
abbrev dktX4_note_3 : List UInt8 := dkwX4_note_3 ++ dktX4_note_4
def dkwX4_note_2 : List UInt8 := [16, 114, 46, 16, 10, 160, 0, 6, 16, 254, 172, 16, 84, 6, 42, 180, 0, 39, 16, 114, 46, 104, 96]
abbrev dktX4_note_2 : List UInt8 := dkwX4_note_2 ++ dktX4_note_3
def dkwX4_note_1 : List UInt8 := [153, 0, 31, 42, 28, 182, 1, 72, 153, 0, 23, 42, 29, 182, 1, 80, 153, 0, 15, 42, 180, 0, 39]
abbrev dktX4_note_1 : List UInt8 := dkwX4_note_1 ++ dktX4_note_2
def dkwX4_note_0 : List UInt8 := [27, 2, 160, 0, 13, 42, 180, 0, 39, 16, 114, 3, 79, 3, 172, 27, 133, 9, 20, 1, 208, 184, 0, 128]
abbrev dktX4_note_0 : List UInt8 := dkwX4_note_0 ++ dktX4_note_1
theorem dksX4_note_0 : cX4_note.data.toList.drop 0 = dktX4_note_0 := by decide +kernel
theorem dksX4_note_1 : cX4_note.data.toList.drop 24 = dktX4_note_1 := dk_seg dksX4_note_0 24 rfl rfl
theorem dksX4_note_2 : cX4_note.data.toList.drop 47 = dktX4_note_2 := dk_seg dksX4_note_1 23 rfl rfl
theorem dksX4_note_3 : cX4_note.data.toList.drop 70 = dktX4_note_3 := dk_seg dksX4_note_2 23 rfl rfl
theorem dksX4_note_4 : cX4_note.data.toList.drop 94 = dktX4_note_4 := dk_seg dksX4_note_3 24 rfl rfl
theorem dksX4_note_5 : cX4_note.data.toList.drop 118 = dktX4_note_5 := dk_seg dksX4_note_4 24 rfl rfl
theorem dX4_note_0 : decode cX4_note 0 = .ok (.iload_n 1, 1) := dk_27 (dk_at dksX4_note_0 0 rfl rfl)
theorem dX4_note_1 : decode cX4_note 1 = .ok (.iconst (-1), 1) := dk_2 (dk_at dksX4_note_0 1 rfl rfl)
theorem dX4_note_2 : decode cX4_note 2 = .ok (.if_icmp .ne 13, 3) := dk_160 0 13 (dk_at dksX4_note_0 2 rfl rfl)
theorem dX4_note_5 : decode cX4_note 5 = .ok (.aload_n 0, 1) := dk_42 (dk_at dksX4_note_0 5 rfl rfl)
theorem dX4_note_6 : decode cX4_note 6 = .ok (.getfield 39, 3) := dk_180 0 39 (dk_at dksX4_note_0 6 rfl rfl)
theorem dX4_note_9 : decode cX4_note 9 = .ok (.bipush 114, 2) := dk_16 114 (dk_at dksX4_note_0 9 rfl rfl)
theorem dX4_note_11 : decode cX4_note 11 = .ok (.iconst 0, 1) := dk_3 (dk_at dksX4_note_0 11 rfl rfl)
theorem dX4_note_12 : decode cX4_note 12 = .ok (.iastore, 1) := dk_79 (dk_at dksX4_note_0 12 rfl rfl)
theorem dX4_note_13 : decode cX4_note 13 = .ok (.iconst 0, 1) := dk_3 (dk_at dksX4_note_0 13 rfl rfl)
theorem dX4_note_14 : decode cX4_note 14 = .ok (.ireturn, 1) := dk_172 (dk_at dksX4_note_0 14 rfl rfl)
theorem dX4_note_15 : decode cX4_note 15 = .ok (.iload_n 1, 1) := dk_27 (dk_at dksX4_note_0 15 rfl rfl)
theorem dX4_note_16 : decode cX4_note 16 = .ok (.i2l, 1) := dk_133 (dk_at dksX4_note_0 16 rfl rfl)
theorem dX4_note_17 : decode cX4_note 17 = .ok (.lconst 0, 1) := dk_9 (dk_at dksX4_note_0 17 rfl rfl)
theorem dX4_note_18 : decode cX4_note 18 = .ok (.ldc2_w 464, 3) := dk_20 1 208 (dk_at dksX4_note_0 18 rfl rfl)
theorem dX4_note_21 : decode cX4_note 21 = .ok (.invokestatic 128, 3) := dk_184 0 128 (dk_at dksX4_note_0 21 rfl rfl)
theorem dX4_note_24 : decode cX4_note 24 = .ok (.ifCond .eq 31, 3) := dk_153 0 31 (dk_at dksX4_note_1 0 rfl rfl)
theorem dX4_note_27 : decode cX4_note 27 = .ok (.aload_n 0, 1) := dk_42 (dk_at dksX4_note_1 3 rfl rfl)
theorem dX4_note_28 : decode cX4_note 28 = .ok (.iload_n 2, 1) := dk_28 (dk_at dksX4_note_1 4 rfl rfl)
theorem dX4_note_29 : decode cX4_note 29 = .ok (.invokevirtual 328, 3) := dk_182 1 72 (dk_at dksX4_note_1 5 rfl rfl)
theorem dX4_note_32 : decode cX4_note 32 = .ok (.ifCond .eq 23, 3) := dk_153 0 23 (dk_at dksX4_note_1 8 rfl rfl)
theorem dX4_note_35 : decode cX4_note 35 = .ok (.aload_n 0, 1) := dk_42 (dk_at dksX4_note_1 11 rfl rfl)
theorem dX4_note_36 : decode cX4_note 36 = .ok (.iload_n 3, 1) := dk_29 (dk_at dksX4_note_1 12 rfl rfl)
theorem dX4_note_37 : decode cX4_note 37 = .ok (.invokevirtual 336, 3) := dk_182 1 80 (dk_at dksX4_note_1 13 rfl rfl)
theorem dX4_note_40 : decode cX4_note 40 = .ok (.ifCond .eq 15, 3) := dk_153 0 15 (dk_at dksX4_note_1 16 rfl rfl)
theorem dX4_note_43 : decode cX4_note 43 = .ok (.aload_n 0, 1) := dk_42 (dk_at dksX4_note_1 19 rfl rfl)
theorem dX4_note_44 : decode cX4_note 44 = .ok (.getfield 39, 3) := dk_180 0 39 (dk_at dksX4_note_1 20 rfl rfl)
theorem dX4_note_47 : decode cX4_note 47 = .ok (.bipush 114, 2) := dk_16 114 (dk_at dksX4_note_2 0 rfl rfl)
theorem dX4_note_49 : decode cX4_note 49 = .ok (.iaload, 1) := dk_46 (dk_at dksX4_note_2 2 rfl rfl)
theorem dX4_note_50 : decode cX4_note 50 = .ok (.bipush 10, 2) := dk_16 10 (dk_at dksX4_note_2 3 rfl rfl)
theorem dX4_note_52 : decode cX4_note 52 = .ok (.if_icmp .ne 6, 3) := dk_160 0 6 (dk_at dksX4_note_2 5 rfl rfl)
theorem dX4_note_55 : decode cX4_note 55 = .ok (.bipush (-2), 2) := dk_16 254 (dk_at dksX4_note_2 8 rfl rfl)
theorem dX4_note_57 : decode cX4_note 57 = .ok (.ireturn, 1) := dk_172 (dk_at dksX4_note_2 10 rfl rfl)
theorem dX4_note_58 : decode cX4_note 58 = .ok (.bipush 84, 2) := dk_16 84 (dk_at dksX4_note_2 11 rfl rfl)
theorem dX4_note_60 : decode cX4_note 60 = .ok (.iconst 3, 1) := dk_6 (dk_at dksX4_note_2 13 rfl rfl)
theorem dX4_note_61 : decode cX4_note 61 = .ok (.aload_n 0, 1) := dk_42 (dk_at dksX4_note_2 14 rfl rfl)
theorem dX4_note_62 : decode cX4_note 62 = .ok (.getfield 39, 3) := dk_180 0 39 (dk_at dksX4_note_2 15 rfl rfl)
theorem dX4_note_65 : decode cX4_note 65 = .ok (.bipush 114, 2) := dk_16 114 (dk_at dksX4_note_2 18 rfl rfl)
theorem dX4_note_67 : decode cX4_note 67 = .ok (.iaload, 1) := dk_46 (dk_at dksX4_note_2 20 rfl rfl)
theorem dX4_note_68 : decode cX4_note 68 = .ok (.imul, 1) := dk_104 (dk_at dksX4_note_2 21 rfl rfl)
theorem dX4_note_69 : decode cX4_note 69 = .ok (.iadd, 1) := dk_96 (dk_at dksX4_note_2 22 rfl rfl)
theorem dX4_note_70 : decode cX4_note 70 = .ok (.istore 4, 2) := dk_54 4 (dk_at dksX4_note_3 0 rfl rfl)
theorem dX4_note_72 : decode cX4_note 72 = .ok (.aload_n 0, 1) := dk_42 (dk_at dksX4_note_3 2 rfl rfl)
theorem dX4_note_73 : decode cX4_note 73 = .ok (.getfield 39, 3) := dk_180 0 39 (dk_at dksX4_note_3 3 rfl rfl)
theorem dX4_note_76 : decode cX4_note 76 = .ok (.iload 4, 2) := dk_21 4 (dk_at dksX4_note_3 6 rfl rfl)
theorem dX4_note_78 : decode cX4_note 78 = .ok (.iload_n 1, 1) := dk_27 (dk_at dksX4_note_3 8 rfl rfl)
theorem dX4_note_79 : decode cX4_note 79 = .ok (.iastore, 1) := dk_79 (dk_at dksX4_note_3 9 rfl rfl)
theorem dX4_note_80 : decode cX4_note 80 = .ok (.aload_n 0, 1) := dk_42 (dk_at dksX4_note_3 10 rfl rfl)
theorem dX4_note_81 : decode cX4_note 81 = .ok (.getfield 39, 3) := dk_180 0 39 (dk_at dksX4_note_3 11 rfl rfl)
theorem dX4_note_84 : decode cX4_note 84 = .ok (.iload 4, 2) := dk_21 4 (dk_at dksX4_note_3 14 rfl rfl)
theorem dX4_note_86 : decode cX4_note 86 = .ok (.iconst 1, 1) := dk_4 (dk_at dksX4_note_3 16 rfl rfl)
theorem dX4_note_87 : decode cX4_note 87 = .ok (.iadd, 1) := dk_96 (dk_at dksX4_note_3 17 rfl rfl)
theorem dX4_note_88 : decode cX4_note 88 = .ok (.iload_n 2, 1) := dk_28 (dk_at dksX4_note_3 18 rfl rfl)
theorem dX4_note_89 : decode cX4_note 89 = .ok (.iastore, 1) := dk_79 (dk_at dksX4_note_3 19 rfl rfl)
theorem dX4_note_90 : decode cX4_note 90 = .ok (.aload_n 0, 1) := dk_42 (dk_at dksX4_note_3 20 rfl rfl)
theorem dX4_note_91 : decode cX4_note 91 = .ok (.getfield 39, 3) := dk_180 0 39 (dk_at dksX4_note_3 21 rfl rfl)
theorem dX4_note_94 : decode cX4_note 94 = .ok (.iload 4, 2) := dk_21 4 (dk_at dksX4_note_4 0 rfl rfl)
theorem dX4_note_96 : decode cX4_note 96 = .ok (.iconst 2, 1) := dk_5 (dk_at dksX4_note_4 2 rfl rfl)
theorem dX4_note_97 : decode cX4_note 97 = .ok (.iadd, 1) := dk_96 (dk_at dksX4_note_4 3 rfl rfl)
theorem dX4_note_98 : decode cX4_note 98 = .ok (.iload_n 3, 1) := dk_29 (dk_at dksX4_note_4 4 rfl rfl)
theorem dX4_note_99 : decode cX4_note 99 = .ok (.iastore, 1) := dk_79 (dk_at dksX4_note_4 5 rfl rfl)
theorem dX4_note_100 : decode cX4_note 100 = .ok (.aload_n 0, 1) := dk_42 (dk_at dksX4_note_4 6 rfl rfl)
theorem dX4_note_101 : decode cX4_note 101 = .ok (.getfield 39, 3) := dk_180 0 39 (dk_at dksX4_note_4 7 rfl rfl)
theorem dX4_note_104 : decode cX4_note 104 = .ok (.bipush 114, 2) := dk_16 114 (dk_at dksX4_note_4 10 rfl rfl)
theorem dX4_note_106 : decode cX4_note 106 = .ok (.dup2, 1) := dk_92 (dk_at dksX4_note_4 12 rfl rfl)
theorem dX4_note_107 : decode cX4_note 107 = .ok (.iaload, 1) := dk_46 (dk_at dksX4_note_4 13 rfl rfl)
theorem dX4_note_108 : decode cX4_note 108 = .ok (.iconst 1, 1) := dk_4 (dk_at dksX4_note_4 14 rfl rfl)
theorem dX4_note_109 : decode cX4_note 109 = .ok (.iadd, 1) := dk_96 (dk_at dksX4_note_4 15 rfl rfl)
theorem dX4_note_110 : decode cX4_note 110 = .ok (.iastore, 1) := dk_79 (dk_at dksX4_note_4 16 rfl rfl)
theorem dX4_note_111 : decode cX4_note 111 = .ok (.aload_n 0, 1) := dk_42 (dk_at dksX4_note_4 17 rfl rfl)
theorem dX4_note_112 : decode cX4_note 112 = .ok (.getfield 39, 3) := dk_180 0 39 (dk_at dksX4_note_4 18 rfl rfl)
theorem dX4_note_115 : decode cX4_note 115 = .ok (.bipush 114, 2) := dk_16 114 (dk_at dksX4_note_4 21 rfl rfl)
theorem dX4_note_117 : decode cX4_note 117 = .ok (.iaload, 1) := dk_46 (dk_at dksX4_note_4 23 rfl rfl)
theorem dX4_note_118 : decode cX4_note 118 = .ok (.ireturn, 1) := dk_172 (dk_at dksX4_note_5 0 rfl rfl)
abbrev cX4_ruled : ByteArray := prog_20_method_112_code
def yX4_ruled : MethodName := ⟨RX4, "ruled", "(I)I"⟩
def dkwX4_ruled_3 : List UInt8 := [28, 167, 0, 4, 29, 172]
abbrev dktX4_ruled_3 : List UInt8 := dkwX4_ruled_3 ++ []
def dkwX4_ruled_2 : List UInt8 := [154, 0, 6, 167, 0, 11, 132, 2, 1, 21, 4, 4, 100, 62, 132, 4, 255, 167, 255, 227, 27, 154, 0, 7]
abbrev dktX4_ruled_2 : List UInt8 := dkwX4_ruled_2 ++ dktX4_ruled_3
def dkwX4_ruled_1 : List UInt8 := [62, 42, 3, 182, 1, 216, 42, 180, 1, 14, 54, 4, 21, 4, 155, 0, 30, 42, 180, 0, 72, 21, 4, 51]
abbrev dktX4_ruled_1 : List UInt8 := dkwX4_ruled_1 ++ dktX4_ruled_2
def dkwX4_ruled_0 : List UInt8 := [42, 182, 1, 133, 153, 0, 13, 27, 133, 9, 10, 184, 0, 128, 154, 0, 6, 16, 253, 172, 3, 61, 16, 254]
abbrev dktX4_ruled_0 : List UInt8 := dkwX4_ruled_0 ++ dktX4_ruled_1
theorem dksX4_ruled_0 : cX4_ruled.data.toList.drop 0 = dktX4_ruled_0 := by decide +kernel
theorem dksX4_ruled_1 : cX4_ruled.data.toList.drop 24 = dktX4_ruled_1 := dk_seg dksX4_ruled_0 24 rfl rfl
theorem dksX4_ruled_2 : cX4_ruled.data.toList.drop 48 = dktX4_ruled_2 := dk_seg dksX4_ruled_1 24 rfl rfl
theorem dksX4_ruled_3 : cX4_ruled.data.toList.drop 72 = dktX4_ruled_3 := dk_seg dksX4_ruled_2 24 rfl rfl
theorem dX4_ruled_0 : decode cX4_ruled 0 = .ok (.aload_n 0, 1) := dk_42 (dk_at dksX4_ruled_0 0 rfl rfl)
theorem dX4_ruled_1 : decode cX4_ruled 1 = .ok (.invokevirtual 389, 3) := dk_182 1 133 (dk_at dksX4_ruled_0 1 rfl rfl)
theorem dX4_ruled_4 : decode cX4_ruled 4 = .ok (.ifCond .eq 13, 3) := dk_153 0 13 (dk_at dksX4_ruled_0 4 rfl rfl)
theorem dX4_ruled_7 : decode cX4_ruled 7 = .ok (.iload_n 1, 1) := dk_27 (dk_at dksX4_ruled_0 7 rfl rfl)
theorem dX4_ruled_8 : decode cX4_ruled 8 = .ok (.i2l, 1) := dk_133 (dk_at dksX4_ruled_0 8 rfl rfl)
theorem dX4_ruled_9 : decode cX4_ruled 9 = .ok (.lconst 0, 1) := dk_9 (dk_at dksX4_ruled_0 9 rfl rfl)
theorem dX4_ruled_10 : decode cX4_ruled 10 = .ok (.lconst 1, 1) := dk_10 (dk_at dksX4_ruled_0 10 rfl rfl)
theorem dX4_ruled_11 : decode cX4_ruled 11 = .ok (.invokestatic 128, 3) := dk_184 0 128 (dk_at dksX4_ruled_0 11 rfl rfl)
theorem dX4_ruled_14 : decode cX4_ruled 14 = .ok (.ifCond .ne 6, 3) := dk_154 0 6 (dk_at dksX4_ruled_0 14 rfl rfl)
theorem dX4_ruled_17 : decode cX4_ruled 17 = .ok (.bipush (-3), 2) := dk_16 253 (dk_at dksX4_ruled_0 17 rfl rfl)
theorem dX4_ruled_19 : decode cX4_ruled 19 = .ok (.ireturn, 1) := dk_172 (dk_at dksX4_ruled_0 19 rfl rfl)
theorem dX4_ruled_20 : decode cX4_ruled 20 = .ok (.iconst 0, 1) := dk_3 (dk_at dksX4_ruled_0 20 rfl rfl)
theorem dX4_ruled_21 : decode cX4_ruled 21 = .ok (.istore_n 2, 1) := dk_61 (dk_at dksX4_ruled_0 21 rfl rfl)
theorem dX4_ruled_22 : decode cX4_ruled 22 = .ok (.bipush (-2), 2) := dk_16 254 (dk_at dksX4_ruled_0 22 rfl rfl)
theorem dX4_ruled_24 : decode cX4_ruled 24 = .ok (.istore_n 3, 1) := dk_62 (dk_at dksX4_ruled_1 0 rfl rfl)
theorem dX4_ruled_25 : decode cX4_ruled 25 = .ok (.aload_n 0, 1) := dk_42 (dk_at dksX4_ruled_1 1 rfl rfl)
theorem dX4_ruled_26 : decode cX4_ruled 26 = .ok (.iconst 0, 1) := dk_3 (dk_at dksX4_ruled_1 2 rfl rfl)
theorem dX4_ruled_27 : decode cX4_ruled 27 = .ok (.invokevirtual 472, 3) := dk_182 1 216 (dk_at dksX4_ruled_1 3 rfl rfl)
theorem dX4_ruled_30 : decode cX4_ruled 30 = .ok (.aload_n 0, 1) := dk_42 (dk_at dksX4_ruled_1 6 rfl rfl)
theorem dX4_ruled_31 : decode cX4_ruled 31 = .ok (.getfield 270, 3) := dk_180 1 14 (dk_at dksX4_ruled_1 7 rfl rfl)
theorem dX4_ruled_34 : decode cX4_ruled 34 = .ok (.istore 4, 2) := dk_54 4 (dk_at dksX4_ruled_1 10 rfl rfl)
theorem dX4_ruled_36 : decode cX4_ruled 36 = .ok (.iload 4, 2) := dk_21 4 (dk_at dksX4_ruled_1 12 rfl rfl)
theorem dX4_ruled_38 : decode cX4_ruled 38 = .ok (.ifCond .lt 30, 3) := dk_155 0 30 (dk_at dksX4_ruled_1 14 rfl rfl)
theorem dX4_ruled_41 : decode cX4_ruled 41 = .ok (.aload_n 0, 1) := dk_42 (dk_at dksX4_ruled_1 17 rfl rfl)
theorem dX4_ruled_42 : decode cX4_ruled 42 = .ok (.getfield 72, 3) := dk_180 0 72 (dk_at dksX4_ruled_1 18 rfl rfl)
theorem dX4_ruled_45 : decode cX4_ruled 45 = .ok (.iload 4, 2) := dk_21 4 (dk_at dksX4_ruled_1 21 rfl rfl)
theorem dX4_ruled_47 : decode cX4_ruled 47 = .ok (.baload, 1) := dk_51 (dk_at dksX4_ruled_1 23 rfl rfl)
theorem dX4_ruled_48 : decode cX4_ruled 48 = .ok (.ifCond .ne 6, 3) := dk_154 0 6 (dk_at dksX4_ruled_2 0 rfl rfl)
theorem dX4_ruled_51 : decode cX4_ruled 51 = .ok (.goto 11, 3) := dk_167 0 11 (dk_at dksX4_ruled_2 3 rfl rfl)
theorem dX4_ruled_54 : decode cX4_ruled 54 = .ok (.iinc 2 1, 3) := dk_132 2 1 (dk_at dksX4_ruled_2 6 rfl rfl)
theorem dX4_ruled_57 : decode cX4_ruled 57 = .ok (.iload 4, 2) := dk_21 4 (dk_at dksX4_ruled_2 9 rfl rfl)
theorem dX4_ruled_59 : decode cX4_ruled 59 = .ok (.iconst 1, 1) := dk_4 (dk_at dksX4_ruled_2 11 rfl rfl)
theorem dX4_ruled_60 : decode cX4_ruled 60 = .ok (.isub, 1) := dk_100 (dk_at dksX4_ruled_2 12 rfl rfl)
theorem dX4_ruled_61 : decode cX4_ruled 61 = .ok (.istore_n 3, 1) := dk_62 (dk_at dksX4_ruled_2 13 rfl rfl)
theorem dX4_ruled_62 : decode cX4_ruled 62 = .ok (.iinc 4 (-1), 3) := dk_132 4 255 (dk_at dksX4_ruled_2 14 rfl rfl)
theorem dX4_ruled_65 : decode cX4_ruled 65 = .ok (.goto (-29), 3) := dk_167 255 227 (dk_at dksX4_ruled_2 17 rfl rfl)
theorem dX4_ruled_68 : decode cX4_ruled 68 = .ok (.iload_n 1, 1) := dk_27 (dk_at dksX4_ruled_2 20 rfl rfl)
theorem dX4_ruled_69 : decode cX4_ruled 69 = .ok (.ifCond .ne 7, 3) := dk_154 0 7 (dk_at dksX4_ruled_2 21 rfl rfl)
theorem dX4_ruled_72 : decode cX4_ruled 72 = .ok (.iload_n 2, 1) := dk_28 (dk_at dksX4_ruled_3 0 rfl rfl)
theorem dX4_ruled_73 : decode cX4_ruled 73 = .ok (.goto 4, 3) := dk_167 0 4 (dk_at dksX4_ruled_3 1 rfl rfl)
theorem dX4_ruled_76 : decode cX4_ruled 76 = .ok (.iload_n 3, 1) := dk_29 (dk_at dksX4_ruled_3 4 rfl rfl)
theorem dX4_ruled_77 : decode cX4_ruled 77 = .ok (.ireturn, 1) := dk_172 (dk_at dksX4_ruled_3 5 rfl rfl)
abbrev cX4_gathersRules : ByteArray := prog_20_method_111_code
def yX4_gathersRules : MethodName := ⟨RX4, "gathersRules", "(I)V"⟩
def dkwX4_gathersRules_6 : List UInt8 := [42, 28, 181, 0, 42, 177]
abbrev dktX4_gathersRules_6 : List UInt8 := dkwX4_gathersRules_6 ++ []
def dkwX4_gathersRules_5 : List UInt8 := [167, 255, 218, 42, 182, 1, 139, 87, 132, 4, 1, 167, 255, 170, 42, 182, 1, 147, 132, 3, 1, 167, 255, 131]
abbrev dktX4_gathersRules_5 : List UInt8 := dkwX4_gathersRules_5 ++ dktX4_gathersRules_6
def dkwX4_gathersRules_4 : List UInt8 := [160, 0, 27, 42, 180, 0, 75, 7, 29, 104, 21, 5, 96, 42, 21, 5, 3, 182, 1, 23, 79, 132, 5, 1]
abbrev dktX4_gathersRules_4 : List UInt8 := dkwX4_gathersRules_4 ++ dktX4_gathersRules_5
def dkwX4_gathersRules_3 : List UInt8 := [167, 0, 4, 3, 84, 3, 54, 5, 21, 5, 42, 180, 0, 39, 5, 46, 162, 0, 33, 21, 4, 27]
abbrev dktX4_gathersRules_3 : List UInt8 := dkwX4_gathersRules_3 ++ dktX4_gathersRules_4
def dkwX4_gathersRules_2 : List UInt8 := [42, 180, 0, 72, 29, 42, 180, 0, 72, 29, 51, 153, 0, 14, 42, 182, 1, 213, 153, 0, 7, 4]
abbrev dktX4_gathersRules_2 : List UInt8 := dkwX4_gathersRules_2 ++ dktX4_gathersRules_3
def dkwX4_gathersRules_1 : List UInt8 := [181, 0, 42, 42, 182, 1, 210, 42, 180, 0, 72, 29, 4, 84, 3, 54, 4, 21, 4, 16, 60, 163, 0, 85]
abbrev dktX4_gathersRules_1 : List UInt8 := dkwX4_gathersRules_1 ++ dktX4_gathersRules_2
def dkwX4_gathersRules_0 : List UInt8 := [42, 180, 0, 42, 61, 42, 182, 1, 144, 3, 62, 29, 42, 180, 1, 14, 163, 0, 123, 42, 29, 4, 100]
abbrev dktX4_gathersRules_0 : List UInt8 := dkwX4_gathersRules_0 ++ dktX4_gathersRules_1
theorem dksX4_gathersRules_0 : cX4_gathersRules.data.toList.drop 0 = dktX4_gathersRules_0 := by decide +kernel
theorem dksX4_gathersRules_1 : cX4_gathersRules.data.toList.drop 23 = dktX4_gathersRules_1 := dk_seg dksX4_gathersRules_0 23 rfl rfl
theorem dksX4_gathersRules_2 : cX4_gathersRules.data.toList.drop 47 = dktX4_gathersRules_2 := dk_seg dksX4_gathersRules_1 24 rfl rfl
theorem dksX4_gathersRules_3 : cX4_gathersRules.data.toList.drop 69 = dktX4_gathersRules_3 := dk_seg dksX4_gathersRules_2 22 rfl rfl
theorem dksX4_gathersRules_4 : cX4_gathersRules.data.toList.drop 91 = dktX4_gathersRules_4 := dk_seg dksX4_gathersRules_3 22 rfl rfl
theorem dksX4_gathersRules_5 : cX4_gathersRules.data.toList.drop 115 = dktX4_gathersRules_5 := dk_seg dksX4_gathersRules_4 24 rfl rfl
theorem dksX4_gathersRules_6 : cX4_gathersRules.data.toList.drop 139 = dktX4_gathersRules_6 := dk_seg dksX4_gathersRules_5 24 rfl rfl
theorem dX4_gathersRules_0 : decode cX4_gathersRules 0 = .ok (.aload_n 0, 1) := dk_42 (dk_at dksX4_gathersRules_0 0 rfl rfl)
theorem dX4_gathersRules_1 : decode cX4_gathersRules 1 = .ok (.getfield 42, 3) := dk_180 0 42 (dk_at dksX4_gathersRules_0 1 rfl rfl)
theorem dX4_gathersRules_4 : decode cX4_gathersRules 4 = .ok (.istore_n 2, 1) := dk_61 (dk_at dksX4_gathersRules_0 4 rfl rfl)
theorem dX4_gathersRules_5 : decode cX4_gathersRules 5 = .ok (.aload_n 0, 1) := dk_42 (dk_at dksX4_gathersRules_0 5 rfl rfl)
theorem dX4_gathersRules_6 : decode cX4_gathersRules 6 = .ok (.invokevirtual 400, 3) := dk_182 1 144 (dk_at dksX4_gathersRules_0 6 rfl rfl)
theorem dX4_gathersRules_9 : decode cX4_gathersRules 9 = .ok (.iconst 0, 1) := dk_3 (dk_at dksX4_gathersRules_0 9 rfl rfl)
theorem dX4_gathersRules_10 : decode cX4_gathersRules 10 = .ok (.istore_n 3, 1) := dk_62 (dk_at dksX4_gathersRules_0 10 rfl rfl)
theorem dX4_gathersRules_11 : decode cX4_gathersRules 11 = .ok (.iload_n 3, 1) := dk_29 (dk_at dksX4_gathersRules_0 11 rfl rfl)
theorem dX4_gathersRules_12 : decode cX4_gathersRules 12 = .ok (.aload_n 0, 1) := dk_42 (dk_at dksX4_gathersRules_0 12 rfl rfl)
theorem dX4_gathersRules_13 : decode cX4_gathersRules 13 = .ok (.getfield 270, 3) := dk_180 1 14 (dk_at dksX4_gathersRules_0 13 rfl rfl)
theorem dX4_gathersRules_16 : decode cX4_gathersRules 16 = .ok (.if_icmp .gt 123, 3) := dk_163 0 123 (dk_at dksX4_gathersRules_0 16 rfl rfl)
theorem dX4_gathersRules_19 : decode cX4_gathersRules 19 = .ok (.aload_n 0, 1) := dk_42 (dk_at dksX4_gathersRules_0 19 rfl rfl)
theorem dX4_gathersRules_20 : decode cX4_gathersRules 20 = .ok (.iload_n 3, 1) := dk_29 (dk_at dksX4_gathersRules_0 20 rfl rfl)
theorem dX4_gathersRules_21 : decode cX4_gathersRules 21 = .ok (.iconst 1, 1) := dk_4 (dk_at dksX4_gathersRules_0 21 rfl rfl)
theorem dX4_gathersRules_22 : decode cX4_gathersRules 22 = .ok (.isub, 1) := dk_100 (dk_at dksX4_gathersRules_0 22 rfl rfl)
theorem dX4_gathersRules_23 : decode cX4_gathersRules 23 = .ok (.putfield 42, 3) := dk_181 0 42 (dk_at dksX4_gathersRules_1 0 rfl rfl)
theorem dX4_gathersRules_26 : decode cX4_gathersRules 26 = .ok (.aload_n 0, 1) := dk_42 (dk_at dksX4_gathersRules_1 3 rfl rfl)
theorem dX4_gathersRules_27 : decode cX4_gathersRules 27 = .ok (.invokevirtual 466, 3) := dk_182 1 210 (dk_at dksX4_gathersRules_1 4 rfl rfl)
theorem dX4_gathersRules_30 : decode cX4_gathersRules 30 = .ok (.aload_n 0, 1) := dk_42 (dk_at dksX4_gathersRules_1 7 rfl rfl)
theorem dX4_gathersRules_31 : decode cX4_gathersRules 31 = .ok (.getfield 72, 3) := dk_180 0 72 (dk_at dksX4_gathersRules_1 8 rfl rfl)
theorem dX4_gathersRules_34 : decode cX4_gathersRules 34 = .ok (.iload_n 3, 1) := dk_29 (dk_at dksX4_gathersRules_1 11 rfl rfl)
theorem dX4_gathersRules_35 : decode cX4_gathersRules 35 = .ok (.iconst 1, 1) := dk_4 (dk_at dksX4_gathersRules_1 12 rfl rfl)
theorem dX4_gathersRules_36 : decode cX4_gathersRules 36 = .ok (.bastore, 1) := dk_84 (dk_at dksX4_gathersRules_1 13 rfl rfl)
theorem dX4_gathersRules_37 : decode cX4_gathersRules 37 = .ok (.iconst 0, 1) := dk_3 (dk_at dksX4_gathersRules_1 14 rfl rfl)
theorem dX4_gathersRules_38 : decode cX4_gathersRules 38 = .ok (.istore 4, 2) := dk_54 4 (dk_at dksX4_gathersRules_1 15 rfl rfl)
theorem dX4_gathersRules_40 : decode cX4_gathersRules 40 = .ok (.iload 4, 2) := dk_21 4 (dk_at dksX4_gathersRules_1 17 rfl rfl)
theorem dX4_gathersRules_42 : decode cX4_gathersRules 42 = .ok (.bipush 60, 2) := dk_16 60 (dk_at dksX4_gathersRules_1 19 rfl rfl)
theorem dX4_gathersRules_44 : decode cX4_gathersRules 44 = .ok (.if_icmp .gt 85, 3) := dk_163 0 85 (dk_at dksX4_gathersRules_1 21 rfl rfl)
theorem dX4_gathersRules_47 : decode cX4_gathersRules 47 = .ok (.aload_n 0, 1) := dk_42 (dk_at dksX4_gathersRules_2 0 rfl rfl)
theorem dX4_gathersRules_48 : decode cX4_gathersRules 48 = .ok (.getfield 72, 3) := dk_180 0 72 (dk_at dksX4_gathersRules_2 1 rfl rfl)
theorem dX4_gathersRules_51 : decode cX4_gathersRules 51 = .ok (.iload_n 3, 1) := dk_29 (dk_at dksX4_gathersRules_2 4 rfl rfl)
theorem dX4_gathersRules_52 : decode cX4_gathersRules 52 = .ok (.aload_n 0, 1) := dk_42 (dk_at dksX4_gathersRules_2 5 rfl rfl)
theorem dX4_gathersRules_53 : decode cX4_gathersRules 53 = .ok (.getfield 72, 3) := dk_180 0 72 (dk_at dksX4_gathersRules_2 6 rfl rfl)
theorem dX4_gathersRules_56 : decode cX4_gathersRules 56 = .ok (.iload_n 3, 1) := dk_29 (dk_at dksX4_gathersRules_2 9 rfl rfl)
theorem dX4_gathersRules_57 : decode cX4_gathersRules 57 = .ok (.baload, 1) := dk_51 (dk_at dksX4_gathersRules_2 10 rfl rfl)
theorem dX4_gathersRules_58 : decode cX4_gathersRules 58 = .ok (.ifCond .eq 14, 3) := dk_153 0 14 (dk_at dksX4_gathersRules_2 11 rfl rfl)
theorem dX4_gathersRules_61 : decode cX4_gathersRules 61 = .ok (.aload_n 0, 1) := dk_42 (dk_at dksX4_gathersRules_2 14 rfl rfl)
theorem dX4_gathersRules_62 : decode cX4_gathersRules 62 = .ok (.invokevirtual 469, 3) := dk_182 1 213 (dk_at dksX4_gathersRules_2 15 rfl rfl)
theorem dX4_gathersRules_65 : decode cX4_gathersRules 65 = .ok (.ifCond .eq 7, 3) := dk_153 0 7 (dk_at dksX4_gathersRules_2 18 rfl rfl)
theorem dX4_gathersRules_68 : decode cX4_gathersRules 68 = .ok (.iconst 1, 1) := dk_4 (dk_at dksX4_gathersRules_2 21 rfl rfl)
theorem dX4_gathersRules_69 : decode cX4_gathersRules 69 = .ok (.goto 4, 3) := dk_167 0 4 (dk_at dksX4_gathersRules_3 0 rfl rfl)
theorem dX4_gathersRules_72 : decode cX4_gathersRules 72 = .ok (.iconst 0, 1) := dk_3 (dk_at dksX4_gathersRules_3 3 rfl rfl)
theorem dX4_gathersRules_73 : decode cX4_gathersRules 73 = .ok (.bastore, 1) := dk_84 (dk_at dksX4_gathersRules_3 4 rfl rfl)
theorem dX4_gathersRules_74 : decode cX4_gathersRules 74 = .ok (.iconst 0, 1) := dk_3 (dk_at dksX4_gathersRules_3 5 rfl rfl)
theorem dX4_gathersRules_75 : decode cX4_gathersRules 75 = .ok (.istore 5, 2) := dk_54 5 (dk_at dksX4_gathersRules_3 6 rfl rfl)
theorem dX4_gathersRules_77 : decode cX4_gathersRules 77 = .ok (.iload 5, 2) := dk_21 5 (dk_at dksX4_gathersRules_3 8 rfl rfl)
theorem dX4_gathersRules_79 : decode cX4_gathersRules 79 = .ok (.aload_n 0, 1) := dk_42 (dk_at dksX4_gathersRules_3 10 rfl rfl)
theorem dX4_gathersRules_80 : decode cX4_gathersRules 80 = .ok (.getfield 39, 3) := dk_180 0 39 (dk_at dksX4_gathersRules_3 11 rfl rfl)
theorem dX4_gathersRules_83 : decode cX4_gathersRules 83 = .ok (.iconst 2, 1) := dk_5 (dk_at dksX4_gathersRules_3 14 rfl rfl)
theorem dX4_gathersRules_84 : decode cX4_gathersRules 84 = .ok (.iaload, 1) := dk_46 (dk_at dksX4_gathersRules_3 15 rfl rfl)
theorem dX4_gathersRules_85 : decode cX4_gathersRules 85 = .ok (.if_icmp .ge 33, 3) := dk_162 0 33 (dk_at dksX4_gathersRules_3 16 rfl rfl)
theorem dX4_gathersRules_88 : decode cX4_gathersRules 88 = .ok (.iload 4, 2) := dk_21 4 (dk_at dksX4_gathersRules_3 19 rfl rfl)
theorem dX4_gathersRules_90 : decode cX4_gathersRules 90 = .ok (.iload_n 1, 1) := dk_27 (dk_at dksX4_gathersRules_3 21 rfl rfl)
theorem dX4_gathersRules_91 : decode cX4_gathersRules 91 = .ok (.if_icmp .ne 27, 3) := dk_160 0 27 (dk_at dksX4_gathersRules_4 0 rfl rfl)
theorem dX4_gathersRules_94 : decode cX4_gathersRules 94 = .ok (.aload_n 0, 1) := dk_42 (dk_at dksX4_gathersRules_4 3 rfl rfl)
theorem dX4_gathersRules_95 : decode cX4_gathersRules 95 = .ok (.getfield 75, 3) := dk_180 0 75 (dk_at dksX4_gathersRules_4 4 rfl rfl)
theorem dX4_gathersRules_98 : decode cX4_gathersRules 98 = .ok (.iconst 4, 1) := dk_7 (dk_at dksX4_gathersRules_4 7 rfl rfl)
theorem dX4_gathersRules_99 : decode cX4_gathersRules 99 = .ok (.iload_n 3, 1) := dk_29 (dk_at dksX4_gathersRules_4 8 rfl rfl)
theorem dX4_gathersRules_100 : decode cX4_gathersRules 100 = .ok (.imul, 1) := dk_104 (dk_at dksX4_gathersRules_4 9 rfl rfl)
theorem dX4_gathersRules_101 : decode cX4_gathersRules 101 = .ok (.iload 5, 2) := dk_21 5 (dk_at dksX4_gathersRules_4 10 rfl rfl)
theorem dX4_gathersRules_103 : decode cX4_gathersRules 103 = .ok (.iadd, 1) := dk_96 (dk_at dksX4_gathersRules_4 12 rfl rfl)
theorem dX4_gathersRules_104 : decode cX4_gathersRules 104 = .ok (.aload_n 0, 1) := dk_42 (dk_at dksX4_gathersRules_4 13 rfl rfl)
theorem dX4_gathersRules_105 : decode cX4_gathersRules 105 = .ok (.iload 5, 2) := dk_21 5 (dk_at dksX4_gathersRules_4 14 rfl rfl)
theorem dX4_gathersRules_107 : decode cX4_gathersRules 107 = .ok (.iconst 0, 1) := dk_3 (dk_at dksX4_gathersRules_4 16 rfl rfl)
theorem dX4_gathersRules_108 : decode cX4_gathersRules 108 = .ok (.invokevirtual 279, 3) := dk_182 1 23 (dk_at dksX4_gathersRules_4 17 rfl rfl)
theorem dX4_gathersRules_111 : decode cX4_gathersRules 111 = .ok (.iastore, 1) := dk_79 (dk_at dksX4_gathersRules_4 20 rfl rfl)
theorem dX4_gathersRules_112 : decode cX4_gathersRules 112 = .ok (.iinc 5 1, 3) := dk_132 5 1 (dk_at dksX4_gathersRules_4 21 rfl rfl)
theorem dX4_gathersRules_115 : decode cX4_gathersRules 115 = .ok (.goto (-38), 3) := dk_167 255 218 (dk_at dksX4_gathersRules_5 0 rfl rfl)
theorem dX4_gathersRules_118 : decode cX4_gathersRules 118 = .ok (.aload_n 0, 1) := dk_42 (dk_at dksX4_gathersRules_5 3 rfl rfl)
theorem dX4_gathersRules_119 : decode cX4_gathersRules 119 = .ok (.invokevirtual 395, 3) := dk_182 1 139 (dk_at dksX4_gathersRules_5 4 rfl rfl)
theorem dX4_gathersRules_122 : decode cX4_gathersRules 122 = .ok (.pop, 1) := dk_87 (dk_at dksX4_gathersRules_5 7 rfl rfl)
theorem dX4_gathersRules_123 : decode cX4_gathersRules 123 = .ok (.iinc 4 1, 3) := dk_132 4 1 (dk_at dksX4_gathersRules_5 8 rfl rfl)
theorem dX4_gathersRules_126 : decode cX4_gathersRules 126 = .ok (.goto (-86), 3) := dk_167 255 170 (dk_at dksX4_gathersRules_5 11 rfl rfl)
theorem dX4_gathersRules_129 : decode cX4_gathersRules 129 = .ok (.aload_n 0, 1) := dk_42 (dk_at dksX4_gathersRules_5 14 rfl rfl)
theorem dX4_gathersRules_130 : decode cX4_gathersRules 130 = .ok (.invokevirtual 403, 3) := dk_182 1 147 (dk_at dksX4_gathersRules_5 15 rfl rfl)
theorem dX4_gathersRules_133 : decode cX4_gathersRules 133 = .ok (.iinc 3 1, 3) := dk_132 3 1 (dk_at dksX4_gathersRules_5 18 rfl rfl)
theorem dX4_gathersRules_136 : decode cX4_gathersRules 136 = .ok (.goto (-125), 3) := dk_167 255 131 (dk_at dksX4_gathersRules_5 21 rfl rfl)
theorem dX4_gathersRules_139 : decode cX4_gathersRules 139 = .ok (.aload_n 0, 1) := dk_42 (dk_at dksX4_gathersRules_6 0 rfl rfl)
theorem dX4_gathersRules_140 : decode cX4_gathersRules 140 = .ok (.iload_n 2, 1) := dk_28 (dk_at dksX4_gathersRules_6 1 rfl rfl)
theorem dX4_gathersRules_141 : decode cX4_gathersRules 141 = .ok (.putfield 42, 3) := dk_181 0 42 (dk_at dksX4_gathersRules_6 2 rfl rfl)
theorem dX4_gathersRules_144 : decode cX4_gathersRules 144 = .ok (.return_, 1) := dk_177 (dk_at dksX4_gathersRules_6 5 rfl rfl)
abbrev cX4_begins : ByteArray := prog_20_method_109_code
def yX4_begins : MethodName := ⟨RX4, "begins", "()V"⟩
def dkwX4_begins_4 : List UInt8 := [167, 255, 170, 177]
abbrev dktX4_begins_4 : List UInt8 := dkwX4_begins_4 ++ []
def dkwX4_begins_3 : List UInt8 := [3, 79, 42, 180, 0, 39, 28, 7, 96, 3, 79, 42, 180, 0, 39, 28, 8, 96, 2, 79, 132, 1, 1]
abbrev dktX4_begins_3 : List UInt8 := dkwX4_begins_3 ++ dktX4_begins_4
def dkwX4_begins_2 : List UInt8 := [28, 4, 96, 42, 180, 0, 39, 16, 115, 5, 27, 104, 96, 4, 96, 46, 79, 42, 180, 0, 39, 28, 6, 96]
abbrev dktX4_begins_2 : List UInt8 := dkwX4_begins_2 ++ dktX4_begins_3
def dkwX4_begins_1 : List UInt8 := [104, 96, 61, 42, 180, 0, 39, 28, 42, 180, 0, 39, 16, 115, 5, 27, 104, 96, 46, 79, 42, 180, 0, 39]
abbrev dktX4_begins_1 : List UInt8 := dkwX4_begins_1 ++ dktX4_begins_2
def dkwX4_begins_0 : List UInt8 := [42, 180, 0, 39, 6, 3, 79, 3, 60, 27, 42, 180, 0, 39, 5, 46, 162, 0, 82, 16, 10, 16, 6, 27]
abbrev dktX4_begins_0 : List UInt8 := dkwX4_begins_0 ++ dktX4_begins_1
theorem dksX4_begins_0 : cX4_begins.data.toList.drop 0 = dktX4_begins_0 := by decide +kernel
theorem dksX4_begins_1 : cX4_begins.data.toList.drop 24 = dktX4_begins_1 := dk_seg dksX4_begins_0 24 rfl rfl
theorem dksX4_begins_2 : cX4_begins.data.toList.drop 48 = dktX4_begins_2 := dk_seg dksX4_begins_1 24 rfl rfl
theorem dksX4_begins_3 : cX4_begins.data.toList.drop 72 = dktX4_begins_3 := dk_seg dksX4_begins_2 24 rfl rfl
theorem dksX4_begins_4 : cX4_begins.data.toList.drop 95 = dktX4_begins_4 := dk_seg dksX4_begins_3 23 rfl rfl
theorem dX4_begins_0 : decode cX4_begins 0 = .ok (.aload_n 0, 1) := dk_42 (dk_at dksX4_begins_0 0 rfl rfl)
theorem dX4_begins_1 : decode cX4_begins 1 = .ok (.getfield 39, 3) := dk_180 0 39 (dk_at dksX4_begins_0 1 rfl rfl)
theorem dX4_begins_4 : decode cX4_begins 4 = .ok (.iconst 3, 1) := dk_6 (dk_at dksX4_begins_0 4 rfl rfl)
theorem dX4_begins_5 : decode cX4_begins 5 = .ok (.iconst 0, 1) := dk_3 (dk_at dksX4_begins_0 5 rfl rfl)
theorem dX4_begins_6 : decode cX4_begins 6 = .ok (.iastore, 1) := dk_79 (dk_at dksX4_begins_0 6 rfl rfl)
theorem dX4_begins_7 : decode cX4_begins 7 = .ok (.iconst 0, 1) := dk_3 (dk_at dksX4_begins_0 7 rfl rfl)
theorem dX4_begins_8 : decode cX4_begins 8 = .ok (.istore_n 1, 1) := dk_60 (dk_at dksX4_begins_0 8 rfl rfl)
theorem dX4_begins_9 : decode cX4_begins 9 = .ok (.iload_n 1, 1) := dk_27 (dk_at dksX4_begins_0 9 rfl rfl)
theorem dX4_begins_10 : decode cX4_begins 10 = .ok (.aload_n 0, 1) := dk_42 (dk_at dksX4_begins_0 10 rfl rfl)
theorem dX4_begins_11 : decode cX4_begins 11 = .ok (.getfield 39, 3) := dk_180 0 39 (dk_at dksX4_begins_0 11 rfl rfl)
theorem dX4_begins_14 : decode cX4_begins 14 = .ok (.iconst 2, 1) := dk_5 (dk_at dksX4_begins_0 14 rfl rfl)
theorem dX4_begins_15 : decode cX4_begins 15 = .ok (.iaload, 1) := dk_46 (dk_at dksX4_begins_0 15 rfl rfl)
theorem dX4_begins_16 : decode cX4_begins 16 = .ok (.if_icmp .ge 82, 3) := dk_162 0 82 (dk_at dksX4_begins_0 16 rfl rfl)
theorem dX4_begins_19 : decode cX4_begins 19 = .ok (.bipush 10, 2) := dk_16 10 (dk_at dksX4_begins_0 19 rfl rfl)
theorem dX4_begins_21 : decode cX4_begins 21 = .ok (.bipush 6, 2) := dk_16 6 (dk_at dksX4_begins_0 21 rfl rfl)
theorem dX4_begins_23 : decode cX4_begins 23 = .ok (.iload_n 1, 1) := dk_27 (dk_at dksX4_begins_0 23 rfl rfl)
theorem dX4_begins_24 : decode cX4_begins 24 = .ok (.imul, 1) := dk_104 (dk_at dksX4_begins_1 0 rfl rfl)
theorem dX4_begins_25 : decode cX4_begins 25 = .ok (.iadd, 1) := dk_96 (dk_at dksX4_begins_1 1 rfl rfl)
theorem dX4_begins_26 : decode cX4_begins 26 = .ok (.istore_n 2, 1) := dk_61 (dk_at dksX4_begins_1 2 rfl rfl)
theorem dX4_begins_27 : decode cX4_begins 27 = .ok (.aload_n 0, 1) := dk_42 (dk_at dksX4_begins_1 3 rfl rfl)
theorem dX4_begins_28 : decode cX4_begins 28 = .ok (.getfield 39, 3) := dk_180 0 39 (dk_at dksX4_begins_1 4 rfl rfl)
theorem dX4_begins_31 : decode cX4_begins 31 = .ok (.iload_n 2, 1) := dk_28 (dk_at dksX4_begins_1 7 rfl rfl)
theorem dX4_begins_32 : decode cX4_begins 32 = .ok (.aload_n 0, 1) := dk_42 (dk_at dksX4_begins_1 8 rfl rfl)
theorem dX4_begins_33 : decode cX4_begins 33 = .ok (.getfield 39, 3) := dk_180 0 39 (dk_at dksX4_begins_1 9 rfl rfl)
theorem dX4_begins_36 : decode cX4_begins 36 = .ok (.bipush 115, 2) := dk_16 115 (dk_at dksX4_begins_1 12 rfl rfl)
theorem dX4_begins_38 : decode cX4_begins 38 = .ok (.iconst 2, 1) := dk_5 (dk_at dksX4_begins_1 14 rfl rfl)
theorem dX4_begins_39 : decode cX4_begins 39 = .ok (.iload_n 1, 1) := dk_27 (dk_at dksX4_begins_1 15 rfl rfl)
theorem dX4_begins_40 : decode cX4_begins 40 = .ok (.imul, 1) := dk_104 (dk_at dksX4_begins_1 16 rfl rfl)
theorem dX4_begins_41 : decode cX4_begins 41 = .ok (.iadd, 1) := dk_96 (dk_at dksX4_begins_1 17 rfl rfl)
theorem dX4_begins_42 : decode cX4_begins 42 = .ok (.iaload, 1) := dk_46 (dk_at dksX4_begins_1 18 rfl rfl)
theorem dX4_begins_43 : decode cX4_begins 43 = .ok (.iastore, 1) := dk_79 (dk_at dksX4_begins_1 19 rfl rfl)
theorem dX4_begins_44 : decode cX4_begins 44 = .ok (.aload_n 0, 1) := dk_42 (dk_at dksX4_begins_1 20 rfl rfl)
theorem dX4_begins_45 : decode cX4_begins 45 = .ok (.getfield 39, 3) := dk_180 0 39 (dk_at dksX4_begins_1 21 rfl rfl)
theorem dX4_begins_48 : decode cX4_begins 48 = .ok (.iload_n 2, 1) := dk_28 (dk_at dksX4_begins_2 0 rfl rfl)
theorem dX4_begins_49 : decode cX4_begins 49 = .ok (.iconst 1, 1) := dk_4 (dk_at dksX4_begins_2 1 rfl rfl)
theorem dX4_begins_50 : decode cX4_begins 50 = .ok (.iadd, 1) := dk_96 (dk_at dksX4_begins_2 2 rfl rfl)
theorem dX4_begins_51 : decode cX4_begins 51 = .ok (.aload_n 0, 1) := dk_42 (dk_at dksX4_begins_2 3 rfl rfl)
theorem dX4_begins_52 : decode cX4_begins 52 = .ok (.getfield 39, 3) := dk_180 0 39 (dk_at dksX4_begins_2 4 rfl rfl)
theorem dX4_begins_55 : decode cX4_begins 55 = .ok (.bipush 115, 2) := dk_16 115 (dk_at dksX4_begins_2 7 rfl rfl)
theorem dX4_begins_57 : decode cX4_begins 57 = .ok (.iconst 2, 1) := dk_5 (dk_at dksX4_begins_2 9 rfl rfl)
theorem dX4_begins_58 : decode cX4_begins 58 = .ok (.iload_n 1, 1) := dk_27 (dk_at dksX4_begins_2 10 rfl rfl)
theorem dX4_begins_59 : decode cX4_begins 59 = .ok (.imul, 1) := dk_104 (dk_at dksX4_begins_2 11 rfl rfl)
theorem dX4_begins_60 : decode cX4_begins 60 = .ok (.iadd, 1) := dk_96 (dk_at dksX4_begins_2 12 rfl rfl)
theorem dX4_begins_61 : decode cX4_begins 61 = .ok (.iconst 1, 1) := dk_4 (dk_at dksX4_begins_2 13 rfl rfl)
theorem dX4_begins_62 : decode cX4_begins 62 = .ok (.iadd, 1) := dk_96 (dk_at dksX4_begins_2 14 rfl rfl)
theorem dX4_begins_63 : decode cX4_begins 63 = .ok (.iaload, 1) := dk_46 (dk_at dksX4_begins_2 15 rfl rfl)
theorem dX4_begins_64 : decode cX4_begins 64 = .ok (.iastore, 1) := dk_79 (dk_at dksX4_begins_2 16 rfl rfl)
theorem dX4_begins_65 : decode cX4_begins 65 = .ok (.aload_n 0, 1) := dk_42 (dk_at dksX4_begins_2 17 rfl rfl)
theorem dX4_begins_66 : decode cX4_begins 66 = .ok (.getfield 39, 3) := dk_180 0 39 (dk_at dksX4_begins_2 18 rfl rfl)
theorem dX4_begins_69 : decode cX4_begins 69 = .ok (.iload_n 2, 1) := dk_28 (dk_at dksX4_begins_2 21 rfl rfl)
theorem dX4_begins_70 : decode cX4_begins 70 = .ok (.iconst 3, 1) := dk_6 (dk_at dksX4_begins_2 22 rfl rfl)
theorem dX4_begins_71 : decode cX4_begins 71 = .ok (.iadd, 1) := dk_96 (dk_at dksX4_begins_2 23 rfl rfl)
theorem dX4_begins_72 : decode cX4_begins 72 = .ok (.iconst 0, 1) := dk_3 (dk_at dksX4_begins_3 0 rfl rfl)
theorem dX4_begins_73 : decode cX4_begins 73 = .ok (.iastore, 1) := dk_79 (dk_at dksX4_begins_3 1 rfl rfl)
theorem dX4_begins_74 : decode cX4_begins 74 = .ok (.aload_n 0, 1) := dk_42 (dk_at dksX4_begins_3 2 rfl rfl)
theorem dX4_begins_75 : decode cX4_begins 75 = .ok (.getfield 39, 3) := dk_180 0 39 (dk_at dksX4_begins_3 3 rfl rfl)
theorem dX4_begins_78 : decode cX4_begins 78 = .ok (.iload_n 2, 1) := dk_28 (dk_at dksX4_begins_3 6 rfl rfl)
theorem dX4_begins_79 : decode cX4_begins 79 = .ok (.iconst 4, 1) := dk_7 (dk_at dksX4_begins_3 7 rfl rfl)
theorem dX4_begins_80 : decode cX4_begins 80 = .ok (.iadd, 1) := dk_96 (dk_at dksX4_begins_3 8 rfl rfl)
theorem dX4_begins_81 : decode cX4_begins 81 = .ok (.iconst 0, 1) := dk_3 (dk_at dksX4_begins_3 9 rfl rfl)
theorem dX4_begins_82 : decode cX4_begins 82 = .ok (.iastore, 1) := dk_79 (dk_at dksX4_begins_3 10 rfl rfl)
theorem dX4_begins_83 : decode cX4_begins 83 = .ok (.aload_n 0, 1) := dk_42 (dk_at dksX4_begins_3 11 rfl rfl)
theorem dX4_begins_84 : decode cX4_begins 84 = .ok (.getfield 39, 3) := dk_180 0 39 (dk_at dksX4_begins_3 12 rfl rfl)
theorem dX4_begins_87 : decode cX4_begins 87 = .ok (.iload_n 2, 1) := dk_28 (dk_at dksX4_begins_3 15 rfl rfl)
theorem dX4_begins_88 : decode cX4_begins 88 = .ok (.iconst 5, 1) := dk_8 (dk_at dksX4_begins_3 16 rfl rfl)
theorem dX4_begins_89 : decode cX4_begins 89 = .ok (.iadd, 1) := dk_96 (dk_at dksX4_begins_3 17 rfl rfl)
theorem dX4_begins_90 : decode cX4_begins 90 = .ok (.iconst (-1), 1) := dk_2 (dk_at dksX4_begins_3 18 rfl rfl)
theorem dX4_begins_91 : decode cX4_begins 91 = .ok (.iastore, 1) := dk_79 (dk_at dksX4_begins_3 19 rfl rfl)
theorem dX4_begins_92 : decode cX4_begins 92 = .ok (.iinc 1 1, 3) := dk_132 1 1 (dk_at dksX4_begins_3 20 rfl rfl)
theorem dX4_begins_95 : decode cX4_begins 95 = .ok (.goto (-86), 3) := dk_167 255 170 (dk_at dksX4_begins_4 0 rfl rfl)
theorem dX4_begins_98 : decode cX4_begins 98 = .ok (.return_, 1) := dk_177 (dk_at dksX4_begins_4 3 rfl rfl)
abbrev cX4_areNotesSo : ByteArray := prog_20_method_110_code
def yX4_areNotesSo : MethodName := ⟨RX4, "areNotesSo", "()Z"⟩
def dkwX4_areNotesSo_2 : List UInt8 := [42, 180, 0, 39, 28, 5, 96, 46, 159, 0, 5, 3, 172, 132, 1, 1, 167, 255, 194, 4, 172]
abbrev dktX4_areNotesSo_2 : List UInt8 := dkwX4_areNotesSo_2 ++ []
def dkwX4_areNotesSo_1 : List UInt8 := [28, 46, 42, 180, 0, 39, 6, 46, 160, 0, 29, 42, 42, 180, 0, 39, 28, 4, 96, 46, 3, 182, 1, 23]
abbrev dktX4_areNotesSo_1 : List UInt8 := dkwX4_areNotesSo_1 ++ dktX4_areNotesSo_2
def dkwX4_areNotesSo_0 : List UInt8 := [3, 60, 27, 42, 180, 0, 39, 16, 114, 46, 162, 0, 57, 16, 84, 6, 27, 104, 96, 61, 42, 180, 0, 39]
abbrev dktX4_areNotesSo_0 : List UInt8 := dkwX4_areNotesSo_0 ++ dktX4_areNotesSo_1
theorem dksX4_areNotesSo_0 : cX4_areNotesSo.data.toList.drop 0 = dktX4_areNotesSo_0 := by decide +kernel
theorem dksX4_areNotesSo_1 : cX4_areNotesSo.data.toList.drop 24 = dktX4_areNotesSo_1 := dk_seg dksX4_areNotesSo_0 24 rfl rfl
theorem dksX4_areNotesSo_2 : cX4_areNotesSo.data.toList.drop 48 = dktX4_areNotesSo_2 := dk_seg dksX4_areNotesSo_1 24 rfl rfl
theorem dX4_areNotesSo_0 : decode cX4_areNotesSo 0 = .ok (.iconst 0, 1) := dk_3 (dk_at dksX4_areNotesSo_0 0 rfl rfl)
theorem dX4_areNotesSo_1 : decode cX4_areNotesSo 1 = .ok (.istore_n 1, 1) := dk_60 (dk_at dksX4_areNotesSo_0 1 rfl rfl)
theorem dX4_areNotesSo_2 : decode cX4_areNotesSo 2 = .ok (.iload_n 1, 1) := dk_27 (dk_at dksX4_areNotesSo_0 2 rfl rfl)
theorem dX4_areNotesSo_3 : decode cX4_areNotesSo 3 = .ok (.aload_n 0, 1) := dk_42 (dk_at dksX4_areNotesSo_0 3 rfl rfl)
theorem dX4_areNotesSo_4 : decode cX4_areNotesSo 4 = .ok (.getfield 39, 3) := dk_180 0 39 (dk_at dksX4_areNotesSo_0 4 rfl rfl)
theorem dX4_areNotesSo_7 : decode cX4_areNotesSo 7 = .ok (.bipush 114, 2) := dk_16 114 (dk_at dksX4_areNotesSo_0 7 rfl rfl)
theorem dX4_areNotesSo_9 : decode cX4_areNotesSo 9 = .ok (.iaload, 1) := dk_46 (dk_at dksX4_areNotesSo_0 9 rfl rfl)
theorem dX4_areNotesSo_10 : decode cX4_areNotesSo 10 = .ok (.if_icmp .ge 57, 3) := dk_162 0 57 (dk_at dksX4_areNotesSo_0 10 rfl rfl)
theorem dX4_areNotesSo_13 : decode cX4_areNotesSo 13 = .ok (.bipush 84, 2) := dk_16 84 (dk_at dksX4_areNotesSo_0 13 rfl rfl)
theorem dX4_areNotesSo_15 : decode cX4_areNotesSo 15 = .ok (.iconst 3, 1) := dk_6 (dk_at dksX4_areNotesSo_0 15 rfl rfl)
theorem dX4_areNotesSo_16 : decode cX4_areNotesSo 16 = .ok (.iload_n 1, 1) := dk_27 (dk_at dksX4_areNotesSo_0 16 rfl rfl)
theorem dX4_areNotesSo_17 : decode cX4_areNotesSo 17 = .ok (.imul, 1) := dk_104 (dk_at dksX4_areNotesSo_0 17 rfl rfl)
theorem dX4_areNotesSo_18 : decode cX4_areNotesSo 18 = .ok (.iadd, 1) := dk_96 (dk_at dksX4_areNotesSo_0 18 rfl rfl)
theorem dX4_areNotesSo_19 : decode cX4_areNotesSo 19 = .ok (.istore_n 2, 1) := dk_61 (dk_at dksX4_areNotesSo_0 19 rfl rfl)
theorem dX4_areNotesSo_20 : decode cX4_areNotesSo 20 = .ok (.aload_n 0, 1) := dk_42 (dk_at dksX4_areNotesSo_0 20 rfl rfl)
theorem dX4_areNotesSo_21 : decode cX4_areNotesSo 21 = .ok (.getfield 39, 3) := dk_180 0 39 (dk_at dksX4_areNotesSo_0 21 rfl rfl)
theorem dX4_areNotesSo_24 : decode cX4_areNotesSo 24 = .ok (.iload_n 2, 1) := dk_28 (dk_at dksX4_areNotesSo_1 0 rfl rfl)
theorem dX4_areNotesSo_25 : decode cX4_areNotesSo 25 = .ok (.iaload, 1) := dk_46 (dk_at dksX4_areNotesSo_1 1 rfl rfl)
theorem dX4_areNotesSo_26 : decode cX4_areNotesSo 26 = .ok (.aload_n 0, 1) := dk_42 (dk_at dksX4_areNotesSo_1 2 rfl rfl)
theorem dX4_areNotesSo_27 : decode cX4_areNotesSo 27 = .ok (.getfield 39, 3) := dk_180 0 39 (dk_at dksX4_areNotesSo_1 3 rfl rfl)
theorem dX4_areNotesSo_30 : decode cX4_areNotesSo 30 = .ok (.iconst 3, 1) := dk_6 (dk_at dksX4_areNotesSo_1 6 rfl rfl)
theorem dX4_areNotesSo_31 : decode cX4_areNotesSo 31 = .ok (.iaload, 1) := dk_46 (dk_at dksX4_areNotesSo_1 7 rfl rfl)
theorem dX4_areNotesSo_32 : decode cX4_areNotesSo 32 = .ok (.if_icmp .ne 29, 3) := dk_160 0 29 (dk_at dksX4_areNotesSo_1 8 rfl rfl)
theorem dX4_areNotesSo_35 : decode cX4_areNotesSo 35 = .ok (.aload_n 0, 1) := dk_42 (dk_at dksX4_areNotesSo_1 11 rfl rfl)
theorem dX4_areNotesSo_36 : decode cX4_areNotesSo 36 = .ok (.aload_n 0, 1) := dk_42 (dk_at dksX4_areNotesSo_1 12 rfl rfl)
theorem dX4_areNotesSo_37 : decode cX4_areNotesSo 37 = .ok (.getfield 39, 3) := dk_180 0 39 (dk_at dksX4_areNotesSo_1 13 rfl rfl)
theorem dX4_areNotesSo_40 : decode cX4_areNotesSo 40 = .ok (.iload_n 2, 1) := dk_28 (dk_at dksX4_areNotesSo_1 16 rfl rfl)
theorem dX4_areNotesSo_41 : decode cX4_areNotesSo 41 = .ok (.iconst 1, 1) := dk_4 (dk_at dksX4_areNotesSo_1 17 rfl rfl)
theorem dX4_areNotesSo_42 : decode cX4_areNotesSo 42 = .ok (.iadd, 1) := dk_96 (dk_at dksX4_areNotesSo_1 18 rfl rfl)
theorem dX4_areNotesSo_43 : decode cX4_areNotesSo 43 = .ok (.iaload, 1) := dk_46 (dk_at dksX4_areNotesSo_1 19 rfl rfl)
theorem dX4_areNotesSo_44 : decode cX4_areNotesSo 44 = .ok (.iconst 0, 1) := dk_3 (dk_at dksX4_areNotesSo_1 20 rfl rfl)
theorem dX4_areNotesSo_45 : decode cX4_areNotesSo 45 = .ok (.invokevirtual 279, 3) := dk_182 1 23 (dk_at dksX4_areNotesSo_1 21 rfl rfl)
theorem dX4_areNotesSo_48 : decode cX4_areNotesSo 48 = .ok (.aload_n 0, 1) := dk_42 (dk_at dksX4_areNotesSo_2 0 rfl rfl)
theorem dX4_areNotesSo_49 : decode cX4_areNotesSo 49 = .ok (.getfield 39, 3) := dk_180 0 39 (dk_at dksX4_areNotesSo_2 1 rfl rfl)
theorem dX4_areNotesSo_52 : decode cX4_areNotesSo 52 = .ok (.iload_n 2, 1) := dk_28 (dk_at dksX4_areNotesSo_2 4 rfl rfl)
theorem dX4_areNotesSo_53 : decode cX4_areNotesSo 53 = .ok (.iconst 2, 1) := dk_5 (dk_at dksX4_areNotesSo_2 5 rfl rfl)
theorem dX4_areNotesSo_54 : decode cX4_areNotesSo 54 = .ok (.iadd, 1) := dk_96 (dk_at dksX4_areNotesSo_2 6 rfl rfl)
theorem dX4_areNotesSo_55 : decode cX4_areNotesSo 55 = .ok (.iaload, 1) := dk_46 (dk_at dksX4_areNotesSo_2 7 rfl rfl)
theorem dX4_areNotesSo_56 : decode cX4_areNotesSo 56 = .ok (.if_icmp .eq 5, 3) := dk_159 0 5 (dk_at dksX4_areNotesSo_2 8 rfl rfl)
theorem dX4_areNotesSo_59 : decode cX4_areNotesSo 59 = .ok (.iconst 0, 1) := dk_3 (dk_at dksX4_areNotesSo_2 11 rfl rfl)
theorem dX4_areNotesSo_60 : decode cX4_areNotesSo 60 = .ok (.ireturn, 1) := dk_172 (dk_at dksX4_areNotesSo_2 12 rfl rfl)
theorem dX4_areNotesSo_61 : decode cX4_areNotesSo 61 = .ok (.iinc 1 1, 3) := dk_132 1 1 (dk_at dksX4_areNotesSo_2 13 rfl rfl)
theorem dX4_areNotesSo_64 : decode cX4_areNotesSo 64 = .ok (.goto (-62), 3) := dk_167 255 194 (dk_at dksX4_areNotesSo_2 16 rfl rfl)
theorem dX4_areNotesSo_67 : decode cX4_areNotesSo 67 = .ok (.iconst 1, 1) := dk_4 (dk_at dksX4_areNotesSo_2 19 rfl rfl)
theorem dX4_areNotesSo_68 : decode cX4_areNotesSo 68 = .ok (.ireturn, 1) := dk_172 (dk_at dksX4_areNotesSo_2 20 rfl rfl)
abbrev cX4_look : ByteArray := prog_20_method_114_code
def yX4_look : MethodName := ⟨RX4, "look", "(II)I"⟩
def dkwX4_look_4 : List UInt8 := [167, 255, 208, 28, 154, 0, 7, 29, 167, 0, 5, 21, 4, 172]
abbrev dktX4_look_4 : List UInt8 := dkwX4_look_4 ++ []
def dkwX4_look_3 : List UInt8 := [29, 155, 0, 13, 21, 6, 21, 4, 161, 0, 6, 167, 0, 10, 21, 5, 62, 21, 6, 54, 4, 132, 5, 1]
abbrev dktX4_look_3 : List UInt8 := dkwX4_look_3 ++ dktX4_look_4
def dkwX4_look_2 : List UInt8 := [21, 5, 42, 180, 0, 39, 5, 46, 162, 0, 43, 42, 21, 5, 182, 1, 219, 54, 6, 21, 6, 153, 0, 24]
abbrev dktX4_look_2 : List UInt8 := dkwX4_look_2 ++ dktX4_look_3
def dkwX4_look_1 : List UInt8 := [184, 0, 128, 154, 0, 5, 2, 172, 42, 27, 182, 1, 216, 16, 254, 62, 16, 254, 54, 4, 3, 54, 5]
abbrev dktX4_look_1 : List UInt8 := dkwX4_look_1 ++ dktX4_look_2
def dkwX4_look_0 : List UInt8 := [42, 182, 1, 133, 153, 0, 25, 27, 133, 9, 20, 1, 208, 184, 0, 128, 153, 0, 13, 28, 133, 9, 10]
abbrev dktX4_look_0 : List UInt8 := dkwX4_look_0 ++ dktX4_look_1
theorem dksX4_look_0 : cX4_look.data.toList.drop 0 = dktX4_look_0 := by decide +kernel
theorem dksX4_look_1 : cX4_look.data.toList.drop 23 = dktX4_look_1 := dk_seg dksX4_look_0 23 rfl rfl
theorem dksX4_look_2 : cX4_look.data.toList.drop 46 = dktX4_look_2 := dk_seg dksX4_look_1 23 rfl rfl
theorem dksX4_look_3 : cX4_look.data.toList.drop 70 = dktX4_look_3 := dk_seg dksX4_look_2 24 rfl rfl
theorem dksX4_look_4 : cX4_look.data.toList.drop 94 = dktX4_look_4 := dk_seg dksX4_look_3 24 rfl rfl
theorem dX4_look_0 : decode cX4_look 0 = .ok (.aload_n 0, 1) := dk_42 (dk_at dksX4_look_0 0 rfl rfl)
theorem dX4_look_1 : decode cX4_look 1 = .ok (.invokevirtual 389, 3) := dk_182 1 133 (dk_at dksX4_look_0 1 rfl rfl)
theorem dX4_look_4 : decode cX4_look 4 = .ok (.ifCond .eq 25, 3) := dk_153 0 25 (dk_at dksX4_look_0 4 rfl rfl)
theorem dX4_look_7 : decode cX4_look 7 = .ok (.iload_n 1, 1) := dk_27 (dk_at dksX4_look_0 7 rfl rfl)
theorem dX4_look_8 : decode cX4_look 8 = .ok (.i2l, 1) := dk_133 (dk_at dksX4_look_0 8 rfl rfl)
theorem dX4_look_9 : decode cX4_look 9 = .ok (.lconst 0, 1) := dk_9 (dk_at dksX4_look_0 9 rfl rfl)
theorem dX4_look_10 : decode cX4_look 10 = .ok (.ldc2_w 464, 3) := dk_20 1 208 (dk_at dksX4_look_0 10 rfl rfl)
theorem dX4_look_13 : decode cX4_look 13 = .ok (.invokestatic 128, 3) := dk_184 0 128 (dk_at dksX4_look_0 13 rfl rfl)
theorem dX4_look_16 : decode cX4_look 16 = .ok (.ifCond .eq 13, 3) := dk_153 0 13 (dk_at dksX4_look_0 16 rfl rfl)
theorem dX4_look_19 : decode cX4_look 19 = .ok (.iload_n 2, 1) := dk_28 (dk_at dksX4_look_0 19 rfl rfl)
theorem dX4_look_20 : decode cX4_look 20 = .ok (.i2l, 1) := dk_133 (dk_at dksX4_look_0 20 rfl rfl)
theorem dX4_look_21 : decode cX4_look 21 = .ok (.lconst 0, 1) := dk_9 (dk_at dksX4_look_0 21 rfl rfl)
theorem dX4_look_22 : decode cX4_look 22 = .ok (.lconst 1, 1) := dk_10 (dk_at dksX4_look_0 22 rfl rfl)
theorem dX4_look_23 : decode cX4_look 23 = .ok (.invokestatic 128, 3) := dk_184 0 128 (dk_at dksX4_look_1 0 rfl rfl)
theorem dX4_look_26 : decode cX4_look 26 = .ok (.ifCond .ne 5, 3) := dk_154 0 5 (dk_at dksX4_look_1 3 rfl rfl)
theorem dX4_look_29 : decode cX4_look 29 = .ok (.iconst (-1), 1) := dk_2 (dk_at dksX4_look_1 6 rfl rfl)
theorem dX4_look_30 : decode cX4_look 30 = .ok (.ireturn, 1) := dk_172 (dk_at dksX4_look_1 7 rfl rfl)
theorem dX4_look_31 : decode cX4_look 31 = .ok (.aload_n 0, 1) := dk_42 (dk_at dksX4_look_1 8 rfl rfl)
theorem dX4_look_32 : decode cX4_look 32 = .ok (.iload_n 1, 1) := dk_27 (dk_at dksX4_look_1 9 rfl rfl)
theorem dX4_look_33 : decode cX4_look 33 = .ok (.invokevirtual 472, 3) := dk_182 1 216 (dk_at dksX4_look_1 10 rfl rfl)
theorem dX4_look_36 : decode cX4_look 36 = .ok (.bipush (-2), 2) := dk_16 254 (dk_at dksX4_look_1 13 rfl rfl)
theorem dX4_look_38 : decode cX4_look 38 = .ok (.istore_n 3, 1) := dk_62 (dk_at dksX4_look_1 15 rfl rfl)
theorem dX4_look_39 : decode cX4_look 39 = .ok (.bipush (-2), 2) := dk_16 254 (dk_at dksX4_look_1 16 rfl rfl)
theorem dX4_look_41 : decode cX4_look 41 = .ok (.istore 4, 2) := dk_54 4 (dk_at dksX4_look_1 18 rfl rfl)
theorem dX4_look_43 : decode cX4_look 43 = .ok (.iconst 0, 1) := dk_3 (dk_at dksX4_look_1 20 rfl rfl)
theorem dX4_look_44 : decode cX4_look 44 = .ok (.istore 5, 2) := dk_54 5 (dk_at dksX4_look_1 21 rfl rfl)
theorem dX4_look_46 : decode cX4_look 46 = .ok (.iload 5, 2) := dk_21 5 (dk_at dksX4_look_2 0 rfl rfl)
theorem dX4_look_48 : decode cX4_look 48 = .ok (.aload_n 0, 1) := dk_42 (dk_at dksX4_look_2 2 rfl rfl)
theorem dX4_look_49 : decode cX4_look 49 = .ok (.getfield 39, 3) := dk_180 0 39 (dk_at dksX4_look_2 3 rfl rfl)
theorem dX4_look_52 : decode cX4_look 52 = .ok (.iconst 2, 1) := dk_5 (dk_at dksX4_look_2 6 rfl rfl)
theorem dX4_look_53 : decode cX4_look 53 = .ok (.iaload, 1) := dk_46 (dk_at dksX4_look_2 7 rfl rfl)
theorem dX4_look_54 : decode cX4_look 54 = .ok (.if_icmp .ge 43, 3) := dk_162 0 43 (dk_at dksX4_look_2 8 rfl rfl)
theorem dX4_look_57 : decode cX4_look 57 = .ok (.aload_n 0, 1) := dk_42 (dk_at dksX4_look_2 11 rfl rfl)
theorem dX4_look_58 : decode cX4_look 58 = .ok (.iload 5, 2) := dk_21 5 (dk_at dksX4_look_2 12 rfl rfl)
theorem dX4_look_60 : decode cX4_look 60 = .ok (.invokevirtual 475, 3) := dk_182 1 219 (dk_at dksX4_look_2 14 rfl rfl)
theorem dX4_look_63 : decode cX4_look 63 = .ok (.istore 6, 2) := dk_54 6 (dk_at dksX4_look_2 17 rfl rfl)
theorem dX4_look_65 : decode cX4_look 65 = .ok (.iload 6, 2) := dk_21 6 (dk_at dksX4_look_2 19 rfl rfl)
theorem dX4_look_67 : decode cX4_look 67 = .ok (.ifCond .eq 24, 3) := dk_153 0 24 (dk_at dksX4_look_2 21 rfl rfl)
theorem dX4_look_70 : decode cX4_look 70 = .ok (.iload_n 3, 1) := dk_29 (dk_at dksX4_look_3 0 rfl rfl)
theorem dX4_look_71 : decode cX4_look 71 = .ok (.ifCond .lt 13, 3) := dk_155 0 13 (dk_at dksX4_look_3 1 rfl rfl)
theorem dX4_look_74 : decode cX4_look 74 = .ok (.iload 6, 2) := dk_21 6 (dk_at dksX4_look_3 4 rfl rfl)
theorem dX4_look_76 : decode cX4_look 76 = .ok (.iload 4, 2) := dk_21 4 (dk_at dksX4_look_3 6 rfl rfl)
theorem dX4_look_78 : decode cX4_look 78 = .ok (.if_icmp .lt 6, 3) := dk_161 0 6 (dk_at dksX4_look_3 8 rfl rfl)
theorem dX4_look_81 : decode cX4_look 81 = .ok (.goto 10, 3) := dk_167 0 10 (dk_at dksX4_look_3 11 rfl rfl)
theorem dX4_look_84 : decode cX4_look 84 = .ok (.iload 5, 2) := dk_21 5 (dk_at dksX4_look_3 14 rfl rfl)
theorem dX4_look_86 : decode cX4_look 86 = .ok (.istore_n 3, 1) := dk_62 (dk_at dksX4_look_3 16 rfl rfl)
theorem dX4_look_87 : decode cX4_look 87 = .ok (.iload 6, 2) := dk_21 6 (dk_at dksX4_look_3 17 rfl rfl)
theorem dX4_look_89 : decode cX4_look 89 = .ok (.istore 4, 2) := dk_54 4 (dk_at dksX4_look_3 19 rfl rfl)
theorem dX4_look_91 : decode cX4_look 91 = .ok (.iinc 5 1, 3) := dk_132 5 1 (dk_at dksX4_look_3 21 rfl rfl)
theorem dX4_look_94 : decode cX4_look 94 = .ok (.goto (-48), 3) := dk_167 255 208 (dk_at dksX4_look_4 0 rfl rfl)
theorem dX4_look_97 : decode cX4_look 97 = .ok (.iload_n 2, 1) := dk_28 (dk_at dksX4_look_4 3 rfl rfl)
theorem dX4_look_98 : decode cX4_look 98 = .ok (.ifCond .ne 7, 3) := dk_154 0 7 (dk_at dksX4_look_4 4 rfl rfl)
theorem dX4_look_101 : decode cX4_look 101 = .ok (.iload_n 3, 1) := dk_29 (dk_at dksX4_look_4 7 rfl rfl)
theorem dX4_look_102 : decode cX4_look 102 = .ok (.goto 5, 3) := dk_167 0 5 (dk_at dksX4_look_4 8 rfl rfl)
theorem dX4_look_105 : decode cX4_look 105 = .ok (.iload 4, 2) := dk_21 4 (dk_at dksX4_look_4 11 rfl rfl)
theorem dX4_look_107 : decode cX4_look 107 = .ok (.ireturn, 1) := dk_172 (dk_at dksX4_look_4 13 rfl rfl)
abbrev cX4_alikeOf : ByteArray := prog_20_method_113_code
def yX4_alikeOf : MethodName := ⟨RX4, "alikeOf", "(I)I"⟩
def dkwX4_alikeOf_3 : List UInt8 := [21, 4, 28, 164, 0, 8, 21, 4, 167, 0, 4, 28, 61, 132, 3, 1, 167, 255, 174, 28, 172]
abbrev dktX4_alikeOf_3 : List UInt8 := dkwX4_alikeOf_3 ++ []
def dkwX4_alikeOf_2 : List UInt8 := [21, 5, 104, 27, 96, 46, 29, 160, 0, 7, 4, 167, 0, 4, 3, 96, 54, 4, 132, 5, 1, 167, 255, 209]
abbrev dktX4_alikeOf_2 : List UInt8 := dkwX4_alikeOf_2 ++ dktX4_alikeOf_3
def dkwX4_alikeOf_1 : List UInt8 := [180, 1, 14, 163, 0, 44, 21, 4, 42, 180, 0, 72, 21, 5, 51, 153, 0, 22, 42, 180, 0, 75, 7]
abbrev dktX4_alikeOf_1 : List UInt8 := dkwX4_alikeOf_1 ++ dktX4_alikeOf_2
def dkwX4_alikeOf_0 : List UInt8 := [3, 61, 3, 62, 29, 42, 180, 0, 39, 3, 46, 162, 0, 78, 3, 54, 4, 3, 54, 5, 21, 5, 42]
abbrev dktX4_alikeOf_0 : List UInt8 := dkwX4_alikeOf_0 ++ dktX4_alikeOf_1
theorem dksX4_alikeOf_0 : cX4_alikeOf.data.toList.drop 0 = dktX4_alikeOf_0 := by decide +kernel
theorem dksX4_alikeOf_1 : cX4_alikeOf.data.toList.drop 23 = dktX4_alikeOf_1 := dk_seg dksX4_alikeOf_0 23 rfl rfl
theorem dksX4_alikeOf_2 : cX4_alikeOf.data.toList.drop 46 = dktX4_alikeOf_2 := dk_seg dksX4_alikeOf_1 23 rfl rfl
theorem dksX4_alikeOf_3 : cX4_alikeOf.data.toList.drop 70 = dktX4_alikeOf_3 := dk_seg dksX4_alikeOf_2 24 rfl rfl
theorem dX4_alikeOf_0 : decode cX4_alikeOf 0 = .ok (.iconst 0, 1) := dk_3 (dk_at dksX4_alikeOf_0 0 rfl rfl)
theorem dX4_alikeOf_1 : decode cX4_alikeOf 1 = .ok (.istore_n 2, 1) := dk_61 (dk_at dksX4_alikeOf_0 1 rfl rfl)
theorem dX4_alikeOf_2 : decode cX4_alikeOf 2 = .ok (.iconst 0, 1) := dk_3 (dk_at dksX4_alikeOf_0 2 rfl rfl)
theorem dX4_alikeOf_3 : decode cX4_alikeOf 3 = .ok (.istore_n 3, 1) := dk_62 (dk_at dksX4_alikeOf_0 3 rfl rfl)
theorem dX4_alikeOf_4 : decode cX4_alikeOf 4 = .ok (.iload_n 3, 1) := dk_29 (dk_at dksX4_alikeOf_0 4 rfl rfl)
theorem dX4_alikeOf_5 : decode cX4_alikeOf 5 = .ok (.aload_n 0, 1) := dk_42 (dk_at dksX4_alikeOf_0 5 rfl rfl)
theorem dX4_alikeOf_6 : decode cX4_alikeOf 6 = .ok (.getfield 39, 3) := dk_180 0 39 (dk_at dksX4_alikeOf_0 6 rfl rfl)
theorem dX4_alikeOf_9 : decode cX4_alikeOf 9 = .ok (.iconst 0, 1) := dk_3 (dk_at dksX4_alikeOf_0 9 rfl rfl)
theorem dX4_alikeOf_10 : decode cX4_alikeOf 10 = .ok (.iaload, 1) := dk_46 (dk_at dksX4_alikeOf_0 10 rfl rfl)
theorem dX4_alikeOf_11 : decode cX4_alikeOf 11 = .ok (.if_icmp .ge 78, 3) := dk_162 0 78 (dk_at dksX4_alikeOf_0 11 rfl rfl)
theorem dX4_alikeOf_14 : decode cX4_alikeOf 14 = .ok (.iconst 0, 1) := dk_3 (dk_at dksX4_alikeOf_0 14 rfl rfl)
theorem dX4_alikeOf_15 : decode cX4_alikeOf 15 = .ok (.istore 4, 2) := dk_54 4 (dk_at dksX4_alikeOf_0 15 rfl rfl)
theorem dX4_alikeOf_17 : decode cX4_alikeOf 17 = .ok (.iconst 0, 1) := dk_3 (dk_at dksX4_alikeOf_0 17 rfl rfl)
theorem dX4_alikeOf_18 : decode cX4_alikeOf 18 = .ok (.istore 5, 2) := dk_54 5 (dk_at dksX4_alikeOf_0 18 rfl rfl)
theorem dX4_alikeOf_20 : decode cX4_alikeOf 20 = .ok (.iload 5, 2) := dk_21 5 (dk_at dksX4_alikeOf_0 20 rfl rfl)
theorem dX4_alikeOf_22 : decode cX4_alikeOf 22 = .ok (.aload_n 0, 1) := dk_42 (dk_at dksX4_alikeOf_0 22 rfl rfl)
theorem dX4_alikeOf_23 : decode cX4_alikeOf 23 = .ok (.getfield 270, 3) := dk_180 1 14 (dk_at dksX4_alikeOf_1 0 rfl rfl)
theorem dX4_alikeOf_26 : decode cX4_alikeOf 26 = .ok (.if_icmp .gt 44, 3) := dk_163 0 44 (dk_at dksX4_alikeOf_1 3 rfl rfl)
theorem dX4_alikeOf_29 : decode cX4_alikeOf 29 = .ok (.iload 4, 2) := dk_21 4 (dk_at dksX4_alikeOf_1 6 rfl rfl)
theorem dX4_alikeOf_31 : decode cX4_alikeOf 31 = .ok (.aload_n 0, 1) := dk_42 (dk_at dksX4_alikeOf_1 8 rfl rfl)
theorem dX4_alikeOf_32 : decode cX4_alikeOf 32 = .ok (.getfield 72, 3) := dk_180 0 72 (dk_at dksX4_alikeOf_1 9 rfl rfl)
theorem dX4_alikeOf_35 : decode cX4_alikeOf 35 = .ok (.iload 5, 2) := dk_21 5 (dk_at dksX4_alikeOf_1 12 rfl rfl)
theorem dX4_alikeOf_37 : decode cX4_alikeOf 37 = .ok (.baload, 1) := dk_51 (dk_at dksX4_alikeOf_1 14 rfl rfl)
theorem dX4_alikeOf_38 : decode cX4_alikeOf 38 = .ok (.ifCond .eq 22, 3) := dk_153 0 22 (dk_at dksX4_alikeOf_1 15 rfl rfl)
theorem dX4_alikeOf_41 : decode cX4_alikeOf 41 = .ok (.aload_n 0, 1) := dk_42 (dk_at dksX4_alikeOf_1 18 rfl rfl)
theorem dX4_alikeOf_42 : decode cX4_alikeOf 42 = .ok (.getfield 75, 3) := dk_180 0 75 (dk_at dksX4_alikeOf_1 19 rfl rfl)
theorem dX4_alikeOf_45 : decode cX4_alikeOf 45 = .ok (.iconst 4, 1) := dk_7 (dk_at dksX4_alikeOf_1 22 rfl rfl)
theorem dX4_alikeOf_46 : decode cX4_alikeOf 46 = .ok (.iload 5, 2) := dk_21 5 (dk_at dksX4_alikeOf_2 0 rfl rfl)
theorem dX4_alikeOf_48 : decode cX4_alikeOf 48 = .ok (.imul, 1) := dk_104 (dk_at dksX4_alikeOf_2 2 rfl rfl)
theorem dX4_alikeOf_49 : decode cX4_alikeOf 49 = .ok (.iload_n 1, 1) := dk_27 (dk_at dksX4_alikeOf_2 3 rfl rfl)
theorem dX4_alikeOf_50 : decode cX4_alikeOf 50 = .ok (.iadd, 1) := dk_96 (dk_at dksX4_alikeOf_2 4 rfl rfl)
theorem dX4_alikeOf_51 : decode cX4_alikeOf 51 = .ok (.iaload, 1) := dk_46 (dk_at dksX4_alikeOf_2 5 rfl rfl)
theorem dX4_alikeOf_52 : decode cX4_alikeOf 52 = .ok (.iload_n 3, 1) := dk_29 (dk_at dksX4_alikeOf_2 6 rfl rfl)
theorem dX4_alikeOf_53 : decode cX4_alikeOf 53 = .ok (.if_icmp .ne 7, 3) := dk_160 0 7 (dk_at dksX4_alikeOf_2 7 rfl rfl)
theorem dX4_alikeOf_56 : decode cX4_alikeOf 56 = .ok (.iconst 1, 1) := dk_4 (dk_at dksX4_alikeOf_2 10 rfl rfl)
theorem dX4_alikeOf_57 : decode cX4_alikeOf 57 = .ok (.goto 4, 3) := dk_167 0 4 (dk_at dksX4_alikeOf_2 11 rfl rfl)
theorem dX4_alikeOf_60 : decode cX4_alikeOf 60 = .ok (.iconst 0, 1) := dk_3 (dk_at dksX4_alikeOf_2 14 rfl rfl)
theorem dX4_alikeOf_61 : decode cX4_alikeOf 61 = .ok (.iadd, 1) := dk_96 (dk_at dksX4_alikeOf_2 15 rfl rfl)
theorem dX4_alikeOf_62 : decode cX4_alikeOf 62 = .ok (.istore 4, 2) := dk_54 4 (dk_at dksX4_alikeOf_2 16 rfl rfl)
theorem dX4_alikeOf_64 : decode cX4_alikeOf 64 = .ok (.iinc 5 1, 3) := dk_132 5 1 (dk_at dksX4_alikeOf_2 18 rfl rfl)
theorem dX4_alikeOf_67 : decode cX4_alikeOf 67 = .ok (.goto (-47), 3) := dk_167 255 209 (dk_at dksX4_alikeOf_2 21 rfl rfl)
theorem dX4_alikeOf_70 : decode cX4_alikeOf 70 = .ok (.iload 4, 2) := dk_21 4 (dk_at dksX4_alikeOf_3 0 rfl rfl)
theorem dX4_alikeOf_72 : decode cX4_alikeOf 72 = .ok (.iload_n 2, 1) := dk_28 (dk_at dksX4_alikeOf_3 2 rfl rfl)
theorem dX4_alikeOf_73 : decode cX4_alikeOf 73 = .ok (.if_icmp .le 8, 3) := dk_164 0 8 (dk_at dksX4_alikeOf_3 3 rfl rfl)
theorem dX4_alikeOf_76 : decode cX4_alikeOf 76 = .ok (.iload 4, 2) := dk_21 4 (dk_at dksX4_alikeOf_3 6 rfl rfl)
theorem dX4_alikeOf_78 : decode cX4_alikeOf 78 = .ok (.goto 4, 3) := dk_167 0 4 (dk_at dksX4_alikeOf_3 8 rfl rfl)
theorem dX4_alikeOf_81 : decode cX4_alikeOf 81 = .ok (.iload_n 2, 1) := dk_28 (dk_at dksX4_alikeOf_3 11 rfl rfl)
theorem dX4_alikeOf_82 : decode cX4_alikeOf 82 = .ok (.istore_n 2, 1) := dk_61 (dk_at dksX4_alikeOf_3 12 rfl rfl)
theorem dX4_alikeOf_83 : decode cX4_alikeOf 83 = .ok (.iinc 3 1, 3) := dk_132 3 1 (dk_at dksX4_alikeOf_3 13 rfl rfl)
theorem dX4_alikeOf_86 : decode cX4_alikeOf 86 = .ok (.goto (-82), 3) := dk_167 255 174 (dk_at dksX4_alikeOf_3 16 rfl rfl)
theorem dX4_alikeOf_89 : decode cX4_alikeOf 89 = .ok (.iload_n 2, 1) := dk_28 (dk_at dksX4_alikeOf_3 19 rfl rfl)
theorem dX4_alikeOf_90 : decode cX4_alikeOf 90 = .ok (.ireturn, 1) := dk_172 (dk_at dksX4_alikeOf_3 20 rfl rfl)
abbrev cX4_seed : ByteArray := prog_20_method_115_code
def yX4_seed : MethodName := ⟨RX4, "seed", "(I)I"⟩
def dkwX4_seed_0 : List UInt8 := [27, 156, 0, 5, 2, 172, 42, 180, 1, 222, 61, 42, 27, 181, 1, 222, 28, 172]
abbrev dktX4_seed_0 : List UInt8 := dkwX4_seed_0 ++ []
theorem dksX4_seed_0 : cX4_seed.data.toList.drop 0 = dktX4_seed_0 := by decide +kernel
theorem dX4_seed_0 : decode cX4_seed 0 = .ok (.iload_n 1, 1) := dk_27 (dk_at dksX4_seed_0 0 rfl rfl)
theorem dX4_seed_1 : decode cX4_seed 1 = .ok (.ifCond .ge 5, 3) := dk_156 0 5 (dk_at dksX4_seed_0 1 rfl rfl)
theorem dX4_seed_4 : decode cX4_seed 4 = .ok (.iconst (-1), 1) := dk_2 (dk_at dksX4_seed_0 4 rfl rfl)
theorem dX4_seed_5 : decode cX4_seed 5 = .ok (.ireturn, 1) := dk_172 (dk_at dksX4_seed_0 5 rfl rfl)
theorem dX4_seed_6 : decode cX4_seed 6 = .ok (.aload_n 0, 1) := dk_42 (dk_at dksX4_seed_0 6 rfl rfl)
theorem dX4_seed_7 : decode cX4_seed 7 = .ok (.getfield 478, 3) := dk_180 1 222 (dk_at dksX4_seed_0 7 rfl rfl)
theorem dX4_seed_10 : decode cX4_seed 10 = .ok (.istore_n 2, 1) := dk_61 (dk_at dksX4_seed_0 10 rfl rfl)
theorem dX4_seed_11 : decode cX4_seed 11 = .ok (.aload_n 0, 1) := dk_42 (dk_at dksX4_seed_0 11 rfl rfl)
theorem dX4_seed_12 : decode cX4_seed 12 = .ok (.iload_n 1, 1) := dk_27 (dk_at dksX4_seed_0 12 rfl rfl)
theorem dX4_seed_13 : decode cX4_seed 13 = .ok (.putfield 478, 3) := dk_181 1 222 (dk_at dksX4_seed_0 13 rfl rfl)
theorem dX4_seed_16 : decode cX4_seed 16 = .ok (.iload_n 2, 1) := dk_28 (dk_at dksX4_seed_0 16 rfl rfl)
theorem dX4_seed_17 : decode cX4_seed 17 = .ok (.ireturn, 1) := dk_172 (dk_at dksX4_seed_0 17 rfl rfl)
abbrev cX4_days : ByteArray := prog_20_method_119_code
def yX4_days : MethodName := ⟨RX4, "days", "(III)I"⟩
def dkwX4_days_5 : List UInt8 := [54, 4, 42, 182, 1, 147, 132, 5, 1, 167, 255, 195, 21, 4, 172]
abbrev dktX4_days_5 : List UInt8 := dkwX4_days_5 ++ []
def dkwX4_days_4 : List UInt8 := [182, 1, 139, 87, 132, 7, 1, 167, 255, 238, 21, 4, 42, 6, 29, 96, 182, 1, 242, 21, 6, 100, 96]
abbrev dktX4_days_4 : List UInt8 := dkwX4_days_4 ++ dktX4_days_5
def dkwX4_days_3 : List UInt8 := [6, 29, 96, 182, 1, 242, 54, 6, 3, 54, 7, 21, 7, 28, 162, 0, 18, 42, 182, 1, 245, 42]
abbrev dktX4_days_3 : List UInt8 := dkwX4_days_3 ++ dktX4_days_4
def dkwX4_days_2 : List UInt8 := [180, 1, 222, 133, 181, 1, 225, 3, 54, 4, 42, 182, 1, 144, 3, 54, 5, 21, 5, 27, 162, 0, 61, 42]
abbrev dktX4_days_2 : List UInt8 := dkwX4_days_2 ++ dktX4_days_3
def dkwX4_days_1 : List UInt8 := [20, 1, 208, 184, 0, 128, 153, 0, 13, 29, 133, 9, 10, 184, 0, 128, 154, 0, 5, 2, 172, 42, 42]
abbrev dktX4_days_1 : List UInt8 := dkwX4_days_1 ++ dktX4_days_2
def dkwX4_days_0 : List UInt8 := [42, 182, 1, 133, 153, 0, 37, 27, 133, 10, 20, 1, 240, 184, 0, 128, 153, 0, 25, 28, 133, 10]
abbrev dktX4_days_0 : List UInt8 := dkwX4_days_0 ++ dktX4_days_1
theorem dksX4_days_0 : cX4_days.data.toList.drop 0 = dktX4_days_0 := by decide +kernel
theorem dksX4_days_1 : cX4_days.data.toList.drop 22 = dktX4_days_1 := dk_seg dksX4_days_0 22 rfl rfl
theorem dksX4_days_2 : cX4_days.data.toList.drop 45 = dktX4_days_2 := dk_seg dksX4_days_1 23 rfl rfl
theorem dksX4_days_3 : cX4_days.data.toList.drop 69 = dktX4_days_3 := dk_seg dksX4_days_2 24 rfl rfl
theorem dksX4_days_4 : cX4_days.data.toList.drop 91 = dktX4_days_4 := dk_seg dksX4_days_3 22 rfl rfl
theorem dksX4_days_5 : cX4_days.data.toList.drop 114 = dktX4_days_5 := dk_seg dksX4_days_4 23 rfl rfl
theorem dX4_days_0 : decode cX4_days 0 = .ok (.aload_n 0, 1) := dk_42 (dk_at dksX4_days_0 0 rfl rfl)
theorem dX4_days_1 : decode cX4_days 1 = .ok (.invokevirtual 389, 3) := dk_182 1 133 (dk_at dksX4_days_0 1 rfl rfl)
theorem dX4_days_4 : decode cX4_days 4 = .ok (.ifCond .eq 37, 3) := dk_153 0 37 (dk_at dksX4_days_0 4 rfl rfl)
theorem dX4_days_7 : decode cX4_days 7 = .ok (.iload_n 1, 1) := dk_27 (dk_at dksX4_days_0 7 rfl rfl)
theorem dX4_days_8 : decode cX4_days 8 = .ok (.i2l, 1) := dk_133 (dk_at dksX4_days_0 8 rfl rfl)
theorem dX4_days_9 : decode cX4_days 9 = .ok (.lconst 1, 1) := dk_10 (dk_at dksX4_days_0 9 rfl rfl)
theorem dX4_days_10 : decode cX4_days 10 = .ok (.ldc2_w 496, 3) := dk_20 1 240 (dk_at dksX4_days_0 10 rfl rfl)
theorem dX4_days_13 : decode cX4_days 13 = .ok (.invokestatic 128, 3) := dk_184 0 128 (dk_at dksX4_days_0 13 rfl rfl)
theorem dX4_days_16 : decode cX4_days 16 = .ok (.ifCond .eq 25, 3) := dk_153 0 25 (dk_at dksX4_days_0 16 rfl rfl)
theorem dX4_days_19 : decode cX4_days 19 = .ok (.iload_n 2, 1) := dk_28 (dk_at dksX4_days_0 19 rfl rfl)
theorem dX4_days_20 : decode cX4_days 20 = .ok (.i2l, 1) := dk_133 (dk_at dksX4_days_0 20 rfl rfl)
theorem dX4_days_21 : decode cX4_days 21 = .ok (.lconst 1, 1) := dk_10 (dk_at dksX4_days_0 21 rfl rfl)
theorem dX4_days_22 : decode cX4_days 22 = .ok (.ldc2_w 464, 3) := dk_20 1 208 (dk_at dksX4_days_1 0 rfl rfl)
theorem dX4_days_25 : decode cX4_days 25 = .ok (.invokestatic 128, 3) := dk_184 0 128 (dk_at dksX4_days_1 3 rfl rfl)
theorem dX4_days_28 : decode cX4_days 28 = .ok (.ifCond .eq 13, 3) := dk_153 0 13 (dk_at dksX4_days_1 6 rfl rfl)
theorem dX4_days_31 : decode cX4_days 31 = .ok (.iload_n 3, 1) := dk_29 (dk_at dksX4_days_1 9 rfl rfl)
theorem dX4_days_32 : decode cX4_days 32 = .ok (.i2l, 1) := dk_133 (dk_at dksX4_days_1 10 rfl rfl)
theorem dX4_days_33 : decode cX4_days 33 = .ok (.lconst 0, 1) := dk_9 (dk_at dksX4_days_1 11 rfl rfl)
theorem dX4_days_34 : decode cX4_days 34 = .ok (.lconst 1, 1) := dk_10 (dk_at dksX4_days_1 12 rfl rfl)
theorem dX4_days_35 : decode cX4_days 35 = .ok (.invokestatic 128, 3) := dk_184 0 128 (dk_at dksX4_days_1 13 rfl rfl)
theorem dX4_days_38 : decode cX4_days 38 = .ok (.ifCond .ne 5, 3) := dk_154 0 5 (dk_at dksX4_days_1 16 rfl rfl)
theorem dX4_days_41 : decode cX4_days 41 = .ok (.iconst (-1), 1) := dk_2 (dk_at dksX4_days_1 19 rfl rfl)
theorem dX4_days_42 : decode cX4_days 42 = .ok (.ireturn, 1) := dk_172 (dk_at dksX4_days_1 20 rfl rfl)
theorem dX4_days_43 : decode cX4_days 43 = .ok (.aload_n 0, 1) := dk_42 (dk_at dksX4_days_1 21 rfl rfl)
theorem dX4_days_44 : decode cX4_days 44 = .ok (.aload_n 0, 1) := dk_42 (dk_at dksX4_days_1 22 rfl rfl)
theorem dX4_days_45 : decode cX4_days 45 = .ok (.getfield 478, 3) := dk_180 1 222 (dk_at dksX4_days_2 0 rfl rfl)
theorem dX4_days_48 : decode cX4_days 48 = .ok (.i2l, 1) := dk_133 (dk_at dksX4_days_2 3 rfl rfl)
theorem dX4_days_49 : decode cX4_days 49 = .ok (.putfield 481, 3) := dk_181 1 225 (dk_at dksX4_days_2 4 rfl rfl)
theorem dX4_days_52 : decode cX4_days 52 = .ok (.iconst 0, 1) := dk_3 (dk_at dksX4_days_2 7 rfl rfl)
theorem dX4_days_53 : decode cX4_days 53 = .ok (.istore 4, 2) := dk_54 4 (dk_at dksX4_days_2 8 rfl rfl)
theorem dX4_days_55 : decode cX4_days 55 = .ok (.aload_n 0, 1) := dk_42 (dk_at dksX4_days_2 10 rfl rfl)
theorem dX4_days_56 : decode cX4_days 56 = .ok (.invokevirtual 400, 3) := dk_182 1 144 (dk_at dksX4_days_2 11 rfl rfl)
theorem dX4_days_59 : decode cX4_days 59 = .ok (.iconst 0, 1) := dk_3 (dk_at dksX4_days_2 14 rfl rfl)
theorem dX4_days_60 : decode cX4_days 60 = .ok (.istore 5, 2) := dk_54 5 (dk_at dksX4_days_2 15 rfl rfl)
theorem dX4_days_62 : decode cX4_days 62 = .ok (.iload 5, 2) := dk_21 5 (dk_at dksX4_days_2 17 rfl rfl)
theorem dX4_days_64 : decode cX4_days 64 = .ok (.iload_n 1, 1) := dk_27 (dk_at dksX4_days_2 19 rfl rfl)
theorem dX4_days_65 : decode cX4_days 65 = .ok (.if_icmp .ge 61, 3) := dk_162 0 61 (dk_at dksX4_days_2 20 rfl rfl)
theorem dX4_days_68 : decode cX4_days 68 = .ok (.aload_n 0, 1) := dk_42 (dk_at dksX4_days_2 23 rfl rfl)
theorem dX4_days_69 : decode cX4_days 69 = .ok (.iconst 3, 1) := dk_6 (dk_at dksX4_days_3 0 rfl rfl)
theorem dX4_days_70 : decode cX4_days 70 = .ok (.iload_n 3, 1) := dk_29 (dk_at dksX4_days_3 1 rfl rfl)
theorem dX4_days_71 : decode cX4_days 71 = .ok (.iadd, 1) := dk_96 (dk_at dksX4_days_3 2 rfl rfl)
theorem dX4_days_72 : decode cX4_days 72 = .ok (.invokevirtual 498, 3) := dk_182 1 242 (dk_at dksX4_days_3 3 rfl rfl)
theorem dX4_days_75 : decode cX4_days 75 = .ok (.istore 6, 2) := dk_54 6 (dk_at dksX4_days_3 6 rfl rfl)
theorem dX4_days_77 : decode cX4_days 77 = .ok (.iconst 0, 1) := dk_3 (dk_at dksX4_days_3 8 rfl rfl)
theorem dX4_days_78 : decode cX4_days 78 = .ok (.istore 7, 2) := dk_54 7 (dk_at dksX4_days_3 9 rfl rfl)
theorem dX4_days_80 : decode cX4_days 80 = .ok (.iload 7, 2) := dk_21 7 (dk_at dksX4_days_3 11 rfl rfl)
theorem dX4_days_82 : decode cX4_days 82 = .ok (.iload_n 2, 1) := dk_28 (dk_at dksX4_days_3 13 rfl rfl)
theorem dX4_days_83 : decode cX4_days 83 = .ok (.if_icmp .ge 18, 3) := dk_162 0 18 (dk_at dksX4_days_3 14 rfl rfl)
theorem dX4_days_86 : decode cX4_days 86 = .ok (.aload_n 0, 1) := dk_42 (dk_at dksX4_days_3 17 rfl rfl)
theorem dX4_days_87 : decode cX4_days 87 = .ok (.invokevirtual 501, 3) := dk_182 1 245 (dk_at dksX4_days_3 18 rfl rfl)
theorem dX4_days_90 : decode cX4_days 90 = .ok (.aload_n 0, 1) := dk_42 (dk_at dksX4_days_3 21 rfl rfl)
theorem dX4_days_91 : decode cX4_days 91 = .ok (.invokevirtual 395, 3) := dk_182 1 139 (dk_at dksX4_days_4 0 rfl rfl)
theorem dX4_days_94 : decode cX4_days 94 = .ok (.pop, 1) := dk_87 (dk_at dksX4_days_4 3 rfl rfl)
theorem dX4_days_95 : decode cX4_days 95 = .ok (.iinc 7 1, 3) := dk_132 7 1 (dk_at dksX4_days_4 4 rfl rfl)
theorem dX4_days_98 : decode cX4_days 98 = .ok (.goto (-18), 3) := dk_167 255 238 (dk_at dksX4_days_4 7 rfl rfl)
theorem dX4_days_101 : decode cX4_days 101 = .ok (.iload 4, 2) := dk_21 4 (dk_at dksX4_days_4 10 rfl rfl)
theorem dX4_days_103 : decode cX4_days 103 = .ok (.aload_n 0, 1) := dk_42 (dk_at dksX4_days_4 12 rfl rfl)
theorem dX4_days_104 : decode cX4_days 104 = .ok (.iconst 3, 1) := dk_6 (dk_at dksX4_days_4 13 rfl rfl)
theorem dX4_days_105 : decode cX4_days 105 = .ok (.iload_n 3, 1) := dk_29 (dk_at dksX4_days_4 14 rfl rfl)
theorem dX4_days_106 : decode cX4_days 106 = .ok (.iadd, 1) := dk_96 (dk_at dksX4_days_4 15 rfl rfl)
theorem dX4_days_107 : decode cX4_days 107 = .ok (.invokevirtual 498, 3) := dk_182 1 242 (dk_at dksX4_days_4 16 rfl rfl)
theorem dX4_days_110 : decode cX4_days 110 = .ok (.iload 6, 2) := dk_21 6 (dk_at dksX4_days_4 19 rfl rfl)
theorem dX4_days_112 : decode cX4_days 112 = .ok (.isub, 1) := dk_100 (dk_at dksX4_days_4 21 rfl rfl)
theorem dX4_days_113 : decode cX4_days 113 = .ok (.iadd, 1) := dk_96 (dk_at dksX4_days_4 22 rfl rfl)
theorem dX4_days_114 : decode cX4_days 114 = .ok (.istore 4, 2) := dk_54 4 (dk_at dksX4_days_5 0 rfl rfl)
theorem dX4_days_116 : decode cX4_days 116 = .ok (.aload_n 0, 1) := dk_42 (dk_at dksX4_days_5 2 rfl rfl)
theorem dX4_days_117 : decode cX4_days 117 = .ok (.invokevirtual 403, 3) := dk_182 1 147 (dk_at dksX4_days_5 3 rfl rfl)
theorem dX4_days_120 : decode cX4_days 120 = .ok (.iinc 5 1, 3) := dk_132 5 1 (dk_at dksX4_days_5 6 rfl rfl)
theorem dX4_days_123 : decode cX4_days 123 = .ok (.goto (-61), 3) := dk_167 255 195 (dk_at dksX4_days_5 9 rfl rfl)
theorem dX4_days_126 : decode cX4_days 126 = .ok (.iload 4, 2) := dk_21 4 (dk_at dksX4_days_5 12 rfl rfl)
theorem dX4_days_128 : decode cX4_days 128 = .ok (.ireturn, 1) := dk_172 (dk_at dksX4_days_5 14 rfl rfl)
abbrev cX4_countOf : ByteArray := prog_20_method_118_code
def yX4_countOf : MethodName := ⟨RX4, "countOf", "(I)I"⟩
def dkwX4_countOf_1 : List UInt8 := [132, 3, 1, 167, 255, 234, 28, 172]
abbrev dktX4_countOf_1 : List UInt8 := dkwX4_countOf_1 ++ []
def dkwX4_countOf_0 : List UInt8 := [3, 61, 3, 62, 29, 42, 180, 0, 39, 5, 46, 162, 0, 18, 28, 42, 29, 27, 182, 1, 23, 96, 61]
abbrev dktX4_countOf_0 : List UInt8 := dkwX4_countOf_0 ++ dktX4_countOf_1
theorem dksX4_countOf_0 : cX4_countOf.data.toList.drop 0 = dktX4_countOf_0 := by decide +kernel
theorem dksX4_countOf_1 : cX4_countOf.data.toList.drop 23 = dktX4_countOf_1 := dk_seg dksX4_countOf_0 23 rfl rfl
theorem dX4_countOf_0 : decode cX4_countOf 0 = .ok (.iconst 0, 1) := dk_3 (dk_at dksX4_countOf_0 0 rfl rfl)
theorem dX4_countOf_1 : decode cX4_countOf 1 = .ok (.istore_n 2, 1) := dk_61 (dk_at dksX4_countOf_0 1 rfl rfl)
theorem dX4_countOf_2 : decode cX4_countOf 2 = .ok (.iconst 0, 1) := dk_3 (dk_at dksX4_countOf_0 2 rfl rfl)
theorem dX4_countOf_3 : decode cX4_countOf 3 = .ok (.istore_n 3, 1) := dk_62 (dk_at dksX4_countOf_0 3 rfl rfl)
theorem dX4_countOf_4 : decode cX4_countOf 4 = .ok (.iload_n 3, 1) := dk_29 (dk_at dksX4_countOf_0 4 rfl rfl)
theorem dX4_countOf_5 : decode cX4_countOf 5 = .ok (.aload_n 0, 1) := dk_42 (dk_at dksX4_countOf_0 5 rfl rfl)
theorem dX4_countOf_6 : decode cX4_countOf 6 = .ok (.getfield 39, 3) := dk_180 0 39 (dk_at dksX4_countOf_0 6 rfl rfl)
theorem dX4_countOf_9 : decode cX4_countOf 9 = .ok (.iconst 2, 1) := dk_5 (dk_at dksX4_countOf_0 9 rfl rfl)
theorem dX4_countOf_10 : decode cX4_countOf 10 = .ok (.iaload, 1) := dk_46 (dk_at dksX4_countOf_0 10 rfl rfl)
theorem dX4_countOf_11 : decode cX4_countOf 11 = .ok (.if_icmp .ge 18, 3) := dk_162 0 18 (dk_at dksX4_countOf_0 11 rfl rfl)
theorem dX4_countOf_14 : decode cX4_countOf 14 = .ok (.iload_n 2, 1) := dk_28 (dk_at dksX4_countOf_0 14 rfl rfl)
theorem dX4_countOf_15 : decode cX4_countOf 15 = .ok (.aload_n 0, 1) := dk_42 (dk_at dksX4_countOf_0 15 rfl rfl)
theorem dX4_countOf_16 : decode cX4_countOf 16 = .ok (.iload_n 3, 1) := dk_29 (dk_at dksX4_countOf_0 16 rfl rfl)
theorem dX4_countOf_17 : decode cX4_countOf 17 = .ok (.iload_n 1, 1) := dk_27 (dk_at dksX4_countOf_0 17 rfl rfl)
theorem dX4_countOf_18 : decode cX4_countOf 18 = .ok (.invokevirtual 279, 3) := dk_182 1 23 (dk_at dksX4_countOf_0 18 rfl rfl)
theorem dX4_countOf_21 : decode cX4_countOf 21 = .ok (.iadd, 1) := dk_96 (dk_at dksX4_countOf_0 21 rfl rfl)
theorem dX4_countOf_22 : decode cX4_countOf 22 = .ok (.istore_n 2, 1) := dk_61 (dk_at dksX4_countOf_0 22 rfl rfl)
theorem dX4_countOf_23 : decode cX4_countOf 23 = .ok (.iinc 3 1, 3) := dk_132 3 1 (dk_at dksX4_countOf_1 0 rfl rfl)
theorem dX4_countOf_26 : decode cX4_countOf 26 = .ok (.goto (-22), 3) := dk_167 255 234 (dk_at dksX4_countOf_1 3 rfl rfl)
theorem dX4_countOf_29 : decode cX4_countOf 29 = .ok (.iload_n 2, 1) := dk_28 (dk_at dksX4_countOf_1 6 rfl rfl)
theorem dX4_countOf_30 : decode cX4_countOf 30 = .ok (.ireturn, 1) := dk_172 (dk_at dksX4_countOf_1 7 rfl rfl)
abbrev cX4_aimsDrawn : ByteArray := prog_20_method_117_code
def yX4_aimsDrawn : MethodName := ⟨RX4, "aimsDrawn", "()V"⟩
def dkwX4_aimsDrawn_1 : List UInt8 := [180, 0, 39, 16, 10, 16, 6, 27, 104, 96, 4, 96, 42, 42, 180, 0, 39, 3, 46, 182, 1, 237, 79, 177]
abbrev dktX4_aimsDrawn_1 : List UInt8 := dkwX4_aimsDrawn_1 ++ []
def dkwX4_aimsDrawn_0 : List UInt8 := [42, 180, 0, 39, 5, 46, 154, 0, 4, 177, 42, 42, 180, 0, 39, 5, 46, 182, 1, 237, 60, 42]
abbrev dktX4_aimsDrawn_0 : List UInt8 := dkwX4_aimsDrawn_0 ++ dktX4_aimsDrawn_1
theorem dksX4_aimsDrawn_0 : cX4_aimsDrawn.data.toList.drop 0 = dktX4_aimsDrawn_0 := by decide +kernel
theorem dksX4_aimsDrawn_1 : cX4_aimsDrawn.data.toList.drop 22 = dktX4_aimsDrawn_1 := dk_seg dksX4_aimsDrawn_0 22 rfl rfl
theorem dX4_aimsDrawn_0 : decode cX4_aimsDrawn 0 = .ok (.aload_n 0, 1) := dk_42 (dk_at dksX4_aimsDrawn_0 0 rfl rfl)
theorem dX4_aimsDrawn_1 : decode cX4_aimsDrawn 1 = .ok (.getfield 39, 3) := dk_180 0 39 (dk_at dksX4_aimsDrawn_0 1 rfl rfl)
theorem dX4_aimsDrawn_4 : decode cX4_aimsDrawn 4 = .ok (.iconst 2, 1) := dk_5 (dk_at dksX4_aimsDrawn_0 4 rfl rfl)
theorem dX4_aimsDrawn_5 : decode cX4_aimsDrawn 5 = .ok (.iaload, 1) := dk_46 (dk_at dksX4_aimsDrawn_0 5 rfl rfl)
theorem dX4_aimsDrawn_6 : decode cX4_aimsDrawn 6 = .ok (.ifCond .ne 4, 3) := dk_154 0 4 (dk_at dksX4_aimsDrawn_0 6 rfl rfl)
theorem dX4_aimsDrawn_9 : decode cX4_aimsDrawn 9 = .ok (.return_, 1) := dk_177 (dk_at dksX4_aimsDrawn_0 9 rfl rfl)
theorem dX4_aimsDrawn_10 : decode cX4_aimsDrawn 10 = .ok (.aload_n 0, 1) := dk_42 (dk_at dksX4_aimsDrawn_0 10 rfl rfl)
theorem dX4_aimsDrawn_11 : decode cX4_aimsDrawn 11 = .ok (.aload_n 0, 1) := dk_42 (dk_at dksX4_aimsDrawn_0 11 rfl rfl)
theorem dX4_aimsDrawn_12 : decode cX4_aimsDrawn 12 = .ok (.getfield 39, 3) := dk_180 0 39 (dk_at dksX4_aimsDrawn_0 12 rfl rfl)
theorem dX4_aimsDrawn_15 : decode cX4_aimsDrawn 15 = .ok (.iconst 2, 1) := dk_5 (dk_at dksX4_aimsDrawn_0 15 rfl rfl)
theorem dX4_aimsDrawn_16 : decode cX4_aimsDrawn 16 = .ok (.iaload, 1) := dk_46 (dk_at dksX4_aimsDrawn_0 16 rfl rfl)
theorem dX4_aimsDrawn_17 : decode cX4_aimsDrawn 17 = .ok (.invokevirtual 493, 3) := dk_182 1 237 (dk_at dksX4_aimsDrawn_0 17 rfl rfl)
theorem dX4_aimsDrawn_20 : decode cX4_aimsDrawn 20 = .ok (.istore_n 1, 1) := dk_60 (dk_at dksX4_aimsDrawn_0 20 rfl rfl)
theorem dX4_aimsDrawn_21 : decode cX4_aimsDrawn 21 = .ok (.aload_n 0, 1) := dk_42 (dk_at dksX4_aimsDrawn_0 21 rfl rfl)
theorem dX4_aimsDrawn_22 : decode cX4_aimsDrawn 22 = .ok (.getfield 39, 3) := dk_180 0 39 (dk_at dksX4_aimsDrawn_1 0 rfl rfl)
theorem dX4_aimsDrawn_25 : decode cX4_aimsDrawn 25 = .ok (.bipush 10, 2) := dk_16 10 (dk_at dksX4_aimsDrawn_1 3 rfl rfl)
theorem dX4_aimsDrawn_27 : decode cX4_aimsDrawn 27 = .ok (.bipush 6, 2) := dk_16 6 (dk_at dksX4_aimsDrawn_1 5 rfl rfl)
theorem dX4_aimsDrawn_29 : decode cX4_aimsDrawn 29 = .ok (.iload_n 1, 1) := dk_27 (dk_at dksX4_aimsDrawn_1 7 rfl rfl)
theorem dX4_aimsDrawn_30 : decode cX4_aimsDrawn 30 = .ok (.imul, 1) := dk_104 (dk_at dksX4_aimsDrawn_1 8 rfl rfl)
theorem dX4_aimsDrawn_31 : decode cX4_aimsDrawn 31 = .ok (.iadd, 1) := dk_96 (dk_at dksX4_aimsDrawn_1 9 rfl rfl)
theorem dX4_aimsDrawn_32 : decode cX4_aimsDrawn 32 = .ok (.iconst 1, 1) := dk_4 (dk_at dksX4_aimsDrawn_1 10 rfl rfl)
theorem dX4_aimsDrawn_33 : decode cX4_aimsDrawn 33 = .ok (.iadd, 1) := dk_96 (dk_at dksX4_aimsDrawn_1 11 rfl rfl)
theorem dX4_aimsDrawn_34 : decode cX4_aimsDrawn 34 = .ok (.aload_n 0, 1) := dk_42 (dk_at dksX4_aimsDrawn_1 12 rfl rfl)
theorem dX4_aimsDrawn_35 : decode cX4_aimsDrawn 35 = .ok (.aload_n 0, 1) := dk_42 (dk_at dksX4_aimsDrawn_1 13 rfl rfl)
theorem dX4_aimsDrawn_36 : decode cX4_aimsDrawn 36 = .ok (.getfield 39, 3) := dk_180 0 39 (dk_at dksX4_aimsDrawn_1 14 rfl rfl)
theorem dX4_aimsDrawn_39 : decode cX4_aimsDrawn 39 = .ok (.iconst 0, 1) := dk_3 (dk_at dksX4_aimsDrawn_1 17 rfl rfl)
theorem dX4_aimsDrawn_40 : decode cX4_aimsDrawn 40 = .ok (.iaload, 1) := dk_46 (dk_at dksX4_aimsDrawn_1 18 rfl rfl)
theorem dX4_aimsDrawn_41 : decode cX4_aimsDrawn 41 = .ok (.invokevirtual 493, 3) := dk_182 1 237 (dk_at dksX4_aimsDrawn_1 19 rfl rfl)
theorem dX4_aimsDrawn_44 : decode cX4_aimsDrawn 44 = .ok (.iastore, 1) := dk_79 (dk_at dksX4_aimsDrawn_1 22 rfl rfl)
theorem dX4_aimsDrawn_45 : decode cX4_aimsDrawn 45 = .ok (.return_, 1) := dk_177 (dk_at dksX4_aimsDrawn_1 23 rfl rfl)
abbrev cX4_draw : ByteArray := prog_20_method_116_code
def yX4_draw : MethodName := ⟨RX4, "draw", "(I)I"⟩
def dkwX4_draw_1 : List UInt8 := [20, 1, 235, 109, 27, 133, 113, 136, 172]
abbrev dktX4_draw_1 : List UInt8 := dkwX4_draw_1 ++ []
def dkwX4_draw_0 : List UInt8 := [42, 42, 180, 1, 225, 20, 1, 229, 105, 20, 1, 231, 97, 20, 1, 233, 113, 181, 1, 225, 42, 180, 1, 225]
abbrev dktX4_draw_0 : List UInt8 := dkwX4_draw_0 ++ dktX4_draw_1
theorem dksX4_draw_0 : cX4_draw.data.toList.drop 0 = dktX4_draw_0 := by decide +kernel
theorem dksX4_draw_1 : cX4_draw.data.toList.drop 24 = dktX4_draw_1 := dk_seg dksX4_draw_0 24 rfl rfl
theorem dX4_draw_0 : decode cX4_draw 0 = .ok (.aload_n 0, 1) := dk_42 (dk_at dksX4_draw_0 0 rfl rfl)
theorem dX4_draw_1 : decode cX4_draw 1 = .ok (.aload_n 0, 1) := dk_42 (dk_at dksX4_draw_0 1 rfl rfl)
theorem dX4_draw_2 : decode cX4_draw 2 = .ok (.getfield 481, 3) := dk_180 1 225 (dk_at dksX4_draw_0 2 rfl rfl)
theorem dX4_draw_5 : decode cX4_draw 5 = .ok (.ldc2_w 485, 3) := dk_20 1 229 (dk_at dksX4_draw_0 5 rfl rfl)
theorem dX4_draw_8 : decode cX4_draw 8 = .ok (.lmul, 1) := dk_105 (dk_at dksX4_draw_0 8 rfl rfl)
theorem dX4_draw_9 : decode cX4_draw 9 = .ok (.ldc2_w 487, 3) := dk_20 1 231 (dk_at dksX4_draw_0 9 rfl rfl)
theorem dX4_draw_12 : decode cX4_draw 12 = .ok (.ladd, 1) := dk_97 (dk_at dksX4_draw_0 12 rfl rfl)
theorem dX4_draw_13 : decode cX4_draw 13 = .ok (.ldc2_w 489, 3) := dk_20 1 233 (dk_at dksX4_draw_0 13 rfl rfl)
theorem dX4_draw_16 : decode cX4_draw 16 = .ok (.lrem, 1) := dk_113 (dk_at dksX4_draw_0 16 rfl rfl)
theorem dX4_draw_17 : decode cX4_draw 17 = .ok (.putfield 481, 3) := dk_181 1 225 (dk_at dksX4_draw_0 17 rfl rfl)
theorem dX4_draw_20 : decode cX4_draw 20 = .ok (.aload_n 0, 1) := dk_42 (dk_at dksX4_draw_0 20 rfl rfl)
theorem dX4_draw_21 : decode cX4_draw 21 = .ok (.getfield 481, 3) := dk_180 1 225 (dk_at dksX4_draw_0 21 rfl rfl)
theorem dX4_draw_24 : decode cX4_draw 24 = .ok (.ldc2_w 491, 3) := dk_20 1 235 (dk_at dksX4_draw_1 0 rfl rfl)
theorem dX4_draw_27 : decode cX4_draw 27 = .ok (.ldiv, 1) := dk_109 (dk_at dksX4_draw_1 3 rfl rfl)
theorem dX4_draw_28 : decode cX4_draw 28 = .ok (.iload_n 1, 1) := dk_27 (dk_at dksX4_draw_1 4 rfl rfl)
theorem dX4_draw_29 : decode cX4_draw 29 = .ok (.i2l, 1) := dk_133 (dk_at dksX4_draw_1 5 rfl rfl)
theorem dX4_draw_30 : decode cX4_draw 30 = .ok (.lrem, 1) := dk_113 (dk_at dksX4_draw_1 6 rfl rfl)
theorem dX4_draw_31 : decode cX4_draw 31 = .ok (.l2i, 1) := dk_136 (dk_at dksX4_draw_1 7 rfl rfl)
theorem dX4_draw_32 : decode cX4_draw 32 = .ok (.ireturn, 1) := dk_172 (dk_at dksX4_draw_1 8 rfl rfl)
abbrev cX4_count : ByteArray := prog_20_method_120_code
def yX4_count : MethodName := ⟨RX4, "count", "(I)I"⟩
def dkwX4_count_5 : List UInt8 := [2, 172]
abbrev dktX4_count_5 : List UInt8 := dkwX4_count_5 ++ []
def dkwX4_count_4 : List UInt8 := [172, 42, 180, 0, 39, 16, 114, 46, 172, 42, 180, 1, 27, 172, 42, 180, 1, 222, 172, 42, 180, 0, 90, 172]
abbrev dktX4_count_4 : List UInt8 := dkwX4_count_4 ++ dktX4_count_5
def dkwX4_count_3 : List UInt8 := [42, 182, 1, 51, 153, 0, 7, 4, 167, 0, 4, 3, 172, 42, 6, 182, 1, 242, 172, 42, 7, 182, 1, 242]
abbrev dktX4_count_3 : List UInt8 := dkwX4_count_3 ++ dktX4_count_4
def dkwX4_count_2 : List UInt8 := [42, 180, 0, 39, 27, 46, 172, 42, 180, 1, 14, 172, 42, 180, 0, 42, 172, 42, 180, 0, 39, 6, 46, 172]
abbrev dktX4_count_2 : List UInt8 := dkwX4_count_2 ++ dktX4_count_3
def dkwX4_count_1 : List UInt8 := [170, 0, 0, 0, 0, 0, 139, 0, 0, 0, 0, 0, 0, 0, 12, 0, 0, 0, 67, 0, 0, 0, 67, 0, 0, 0, 67, 0, 0, 0, 74, 0, 0, 0, 79, 0, 0, 0, 84, 0, 0, 0, 91, 0, 0, 0, 104, 0, 0, 0, 110, 0, 0, 0, 116, 0, 0, 0, 124, 0, 0, 0, 129, 0, 0, 0, 134]
abbrev dktX4_count_1 : List UInt8 := dkwX4_count_1 ++ dktX4_count_2
def dkwX4_count_0 : List UInt8 := [27]
abbrev dktX4_count_0 : List UInt8 := dkwX4_count_0 ++ dktX4_count_1
theorem dksX4_count_0 : cX4_count.data.toList.drop 0 = dktX4_count_0 := by decide +kernel
theorem dksX4_count_1 : cX4_count.data.toList.drop 1 = dktX4_count_1 := dk_seg dksX4_count_0 1 rfl rfl
theorem dksX4_count_2 : cX4_count.data.toList.drop 68 = dktX4_count_2 := dk_seg dksX4_count_1 67 rfl rfl
theorem dksX4_count_3 : cX4_count.data.toList.drop 92 = dktX4_count_3 := dk_seg dksX4_count_2 24 rfl rfl
theorem dksX4_count_4 : cX4_count.data.toList.drop 116 = dktX4_count_4 := dk_seg dksX4_count_3 24 rfl rfl
theorem dksX4_count_5 : cX4_count.data.toList.drop 140 = dktX4_count_5 := dk_seg dksX4_count_4 24 rfl rfl
theorem dX4_count_0 : decode cX4_count 0 = .ok (.iload_n 1, 1) := dk_27 (dk_at dksX4_count_0 0 rfl rfl)
theorem dX4_count_1 : decode cX4_count 1 = .ok (.tableswitch 139 0 12 #[67, 67, 67, 74, 79, 84, 91, 104, 110, 116, 124, 129, 134], 67) := by decide +kernel
theorem dX4_count_68 : decode cX4_count 68 = .ok (.aload_n 0, 1) := dk_42 (dk_at dksX4_count_2 0 rfl rfl)
theorem dX4_count_69 : decode cX4_count 69 = .ok (.getfield 39, 3) := dk_180 0 39 (dk_at dksX4_count_2 1 rfl rfl)
theorem dX4_count_72 : decode cX4_count 72 = .ok (.iload_n 1, 1) := dk_27 (dk_at dksX4_count_2 4 rfl rfl)
theorem dX4_count_73 : decode cX4_count 73 = .ok (.iaload, 1) := dk_46 (dk_at dksX4_count_2 5 rfl rfl)
theorem dX4_count_74 : decode cX4_count 74 = .ok (.ireturn, 1) := dk_172 (dk_at dksX4_count_2 6 rfl rfl)
theorem dX4_count_75 : decode cX4_count 75 = .ok (.aload_n 0, 1) := dk_42 (dk_at dksX4_count_2 7 rfl rfl)
theorem dX4_count_76 : decode cX4_count 76 = .ok (.getfield 270, 3) := dk_180 1 14 (dk_at dksX4_count_2 8 rfl rfl)
theorem dX4_count_79 : decode cX4_count 79 = .ok (.ireturn, 1) := dk_172 (dk_at dksX4_count_2 11 rfl rfl)
theorem dX4_count_80 : decode cX4_count 80 = .ok (.aload_n 0, 1) := dk_42 (dk_at dksX4_count_2 12 rfl rfl)
theorem dX4_count_81 : decode cX4_count 81 = .ok (.getfield 42, 3) := dk_180 0 42 (dk_at dksX4_count_2 13 rfl rfl)
theorem dX4_count_84 : decode cX4_count 84 = .ok (.ireturn, 1) := dk_172 (dk_at dksX4_count_2 16 rfl rfl)
theorem dX4_count_85 : decode cX4_count 85 = .ok (.aload_n 0, 1) := dk_42 (dk_at dksX4_count_2 17 rfl rfl)
theorem dX4_count_86 : decode cX4_count 86 = .ok (.getfield 39, 3) := dk_180 0 39 (dk_at dksX4_count_2 18 rfl rfl)
theorem dX4_count_89 : decode cX4_count 89 = .ok (.iconst 3, 1) := dk_6 (dk_at dksX4_count_2 21 rfl rfl)
theorem dX4_count_90 : decode cX4_count 90 = .ok (.iaload, 1) := dk_46 (dk_at dksX4_count_2 22 rfl rfl)
theorem dX4_count_91 : decode cX4_count 91 = .ok (.ireturn, 1) := dk_172 (dk_at dksX4_count_2 23 rfl rfl)
theorem dX4_count_92 : decode cX4_count 92 = .ok (.aload_n 0, 1) := dk_42 (dk_at dksX4_count_3 0 rfl rfl)
theorem dX4_count_93 : decode cX4_count 93 = .ok (.invokevirtual 307, 3) := dk_182 1 51 (dk_at dksX4_count_3 1 rfl rfl)
theorem dX4_count_96 : decode cX4_count 96 = .ok (.ifCond .eq 7, 3) := dk_153 0 7 (dk_at dksX4_count_3 4 rfl rfl)
theorem dX4_count_99 : decode cX4_count 99 = .ok (.iconst 1, 1) := dk_4 (dk_at dksX4_count_3 7 rfl rfl)
theorem dX4_count_100 : decode cX4_count 100 = .ok (.goto 4, 3) := dk_167 0 4 (dk_at dksX4_count_3 8 rfl rfl)
theorem dX4_count_103 : decode cX4_count 103 = .ok (.iconst 0, 1) := dk_3 (dk_at dksX4_count_3 11 rfl rfl)
theorem dX4_count_104 : decode cX4_count 104 = .ok (.ireturn, 1) := dk_172 (dk_at dksX4_count_3 12 rfl rfl)
theorem dX4_count_105 : decode cX4_count 105 = .ok (.aload_n 0, 1) := dk_42 (dk_at dksX4_count_3 13 rfl rfl)
theorem dX4_count_106 : decode cX4_count 106 = .ok (.iconst 3, 1) := dk_6 (dk_at dksX4_count_3 14 rfl rfl)
theorem dX4_count_107 : decode cX4_count 107 = .ok (.invokevirtual 498, 3) := dk_182 1 242 (dk_at dksX4_count_3 15 rfl rfl)
theorem dX4_count_110 : decode cX4_count 110 = .ok (.ireturn, 1) := dk_172 (dk_at dksX4_count_3 18 rfl rfl)
theorem dX4_count_111 : decode cX4_count 111 = .ok (.aload_n 0, 1) := dk_42 (dk_at dksX4_count_3 19 rfl rfl)
theorem dX4_count_112 : decode cX4_count 112 = .ok (.iconst 4, 1) := dk_7 (dk_at dksX4_count_3 20 rfl rfl)
theorem dX4_count_113 : decode cX4_count 113 = .ok (.invokevirtual 498, 3) := dk_182 1 242 (dk_at dksX4_count_3 21 rfl rfl)
theorem dX4_count_116 : decode cX4_count 116 = .ok (.ireturn, 1) := dk_172 (dk_at dksX4_count_4 0 rfl rfl)
theorem dX4_count_117 : decode cX4_count 117 = .ok (.aload_n 0, 1) := dk_42 (dk_at dksX4_count_4 1 rfl rfl)
theorem dX4_count_118 : decode cX4_count 118 = .ok (.getfield 39, 3) := dk_180 0 39 (dk_at dksX4_count_4 2 rfl rfl)
theorem dX4_count_121 : decode cX4_count 121 = .ok (.bipush 114, 2) := dk_16 114 (dk_at dksX4_count_4 5 rfl rfl)
theorem dX4_count_123 : decode cX4_count 123 = .ok (.iaload, 1) := dk_46 (dk_at dksX4_count_4 7 rfl rfl)
theorem dX4_count_124 : decode cX4_count 124 = .ok (.ireturn, 1) := dk_172 (dk_at dksX4_count_4 8 rfl rfl)
theorem dX4_count_125 : decode cX4_count 125 = .ok (.aload_n 0, 1) := dk_42 (dk_at dksX4_count_4 9 rfl rfl)
theorem dX4_count_126 : decode cX4_count 126 = .ok (.getfield 283, 3) := dk_180 1 27 (dk_at dksX4_count_4 10 rfl rfl)
theorem dX4_count_129 : decode cX4_count 129 = .ok (.ireturn, 1) := dk_172 (dk_at dksX4_count_4 13 rfl rfl)
theorem dX4_count_130 : decode cX4_count 130 = .ok (.aload_n 0, 1) := dk_42 (dk_at dksX4_count_4 14 rfl rfl)
theorem dX4_count_131 : decode cX4_count 131 = .ok (.getfield 478, 3) := dk_180 1 222 (dk_at dksX4_count_4 15 rfl rfl)
theorem dX4_count_134 : decode cX4_count 134 = .ok (.ireturn, 1) := dk_172 (dk_at dksX4_count_4 18 rfl rfl)
theorem dX4_count_135 : decode cX4_count 135 = .ok (.aload_n 0, 1) := dk_42 (dk_at dksX4_count_4 19 rfl rfl)
theorem dX4_count_136 : decode cX4_count 136 = .ok (.getfield 90, 3) := dk_180 0 90 (dk_at dksX4_count_4 20 rfl rfl)
theorem dX4_count_139 : decode cX4_count 139 = .ok (.ireturn, 1) := dk_172 (dk_at dksX4_count_4 23 rfl rfl)
theorem dX4_count_140 : decode cX4_count 140 = .ok (.iconst (-1), 1) := dk_2 (dk_at dksX4_count_5 0 rfl rfl)
theorem dX4_count_141 : decode cX4_count 141 = .ok (.ireturn, 1) := dk_172 (dk_at dksX4_count_5 1 rfl rfl)
abbrev cX4_image : ByteArray := prog_20_method_121_code
def yX4_image : MethodName := ⟨RX4, "image", "(I)I"⟩
def dkwX4_image_3 : List UInt8 := [167, 255, 230, 42, 180, 0, 39, 6, 46, 172]
abbrev dktX4_image_3 : List UInt8 := dkwX4_image_3 ++ []
def dkwX4_image_2 : List UInt8 := [162, 0, 26, 42, 180, 0, 78, 16, 123, 27, 104, 28, 96, 42, 180, 0, 39, 28, 46, 79, 132, 2, 1]
abbrev dktX4_image_2 : List UInt8 := dkwX4_image_2 ++ dktX4_image_3
def dkwX4_image_1 : List UInt8 := [180, 0, 81, 27, 42, 180, 0, 42, 79, 42, 180, 0, 84, 27, 42, 180, 1, 222, 79, 3, 61, 28, 16, 123]
abbrev dktX4_image_1 : List UInt8 := dkwX4_image_1 ++ dktX4_image_2
def dkwX4_image_0 : List UInt8 := [27, 133, 9, 20, 1, 94, 184, 0, 128, 154, 0, 5, 2, 172, 42, 180, 0, 87, 27, 4, 84, 42]
abbrev dktX4_image_0 : List UInt8 := dkwX4_image_0 ++ dktX4_image_1
theorem dksX4_image_0 : cX4_image.data.toList.drop 0 = dktX4_image_0 := by decide +kernel
theorem dksX4_image_1 : cX4_image.data.toList.drop 22 = dktX4_image_1 := dk_seg dksX4_image_0 22 rfl rfl
theorem dksX4_image_2 : cX4_image.data.toList.drop 46 = dktX4_image_2 := dk_seg dksX4_image_1 24 rfl rfl
theorem dksX4_image_3 : cX4_image.data.toList.drop 69 = dktX4_image_3 := dk_seg dksX4_image_2 23 rfl rfl
theorem dX4_image_0 : decode cX4_image 0 = .ok (.iload_n 1, 1) := dk_27 (dk_at dksX4_image_0 0 rfl rfl)
theorem dX4_image_1 : decode cX4_image 1 = .ok (.i2l, 1) := dk_133 (dk_at dksX4_image_0 1 rfl rfl)
theorem dX4_image_2 : decode cX4_image 2 = .ok (.lconst 0, 1) := dk_9 (dk_at dksX4_image_0 2 rfl rfl)
theorem dX4_image_3 : decode cX4_image 3 = .ok (.ldc2_w 350, 3) := dk_20 1 94 (dk_at dksX4_image_0 3 rfl rfl)
theorem dX4_image_6 : decode cX4_image 6 = .ok (.invokestatic 128, 3) := dk_184 0 128 (dk_at dksX4_image_0 6 rfl rfl)
theorem dX4_image_9 : decode cX4_image 9 = .ok (.ifCond .ne 5, 3) := dk_154 0 5 (dk_at dksX4_image_0 9 rfl rfl)
theorem dX4_image_12 : decode cX4_image 12 = .ok (.iconst (-1), 1) := dk_2 (dk_at dksX4_image_0 12 rfl rfl)
theorem dX4_image_13 : decode cX4_image 13 = .ok (.ireturn, 1) := dk_172 (dk_at dksX4_image_0 13 rfl rfl)
theorem dX4_image_14 : decode cX4_image 14 = .ok (.aload_n 0, 1) := dk_42 (dk_at dksX4_image_0 14 rfl rfl)
theorem dX4_image_15 : decode cX4_image 15 = .ok (.getfield 87, 3) := dk_180 0 87 (dk_at dksX4_image_0 15 rfl rfl)
theorem dX4_image_18 : decode cX4_image 18 = .ok (.iload_n 1, 1) := dk_27 (dk_at dksX4_image_0 18 rfl rfl)
theorem dX4_image_19 : decode cX4_image 19 = .ok (.iconst 1, 1) := dk_4 (dk_at dksX4_image_0 19 rfl rfl)
theorem dX4_image_20 : decode cX4_image 20 = .ok (.bastore, 1) := dk_84 (dk_at dksX4_image_0 20 rfl rfl)
theorem dX4_image_21 : decode cX4_image 21 = .ok (.aload_n 0, 1) := dk_42 (dk_at dksX4_image_0 21 rfl rfl)
theorem dX4_image_22 : decode cX4_image 22 = .ok (.getfield 81, 3) := dk_180 0 81 (dk_at dksX4_image_1 0 rfl rfl)
theorem dX4_image_25 : decode cX4_image 25 = .ok (.iload_n 1, 1) := dk_27 (dk_at dksX4_image_1 3 rfl rfl)
theorem dX4_image_26 : decode cX4_image 26 = .ok (.aload_n 0, 1) := dk_42 (dk_at dksX4_image_1 4 rfl rfl)
theorem dX4_image_27 : decode cX4_image 27 = .ok (.getfield 42, 3) := dk_180 0 42 (dk_at dksX4_image_1 5 rfl rfl)
theorem dX4_image_30 : decode cX4_image 30 = .ok (.iastore, 1) := dk_79 (dk_at dksX4_image_1 8 rfl rfl)
theorem dX4_image_31 : decode cX4_image 31 = .ok (.aload_n 0, 1) := dk_42 (dk_at dksX4_image_1 9 rfl rfl)
theorem dX4_image_32 : decode cX4_image 32 = .ok (.getfield 84, 3) := dk_180 0 84 (dk_at dksX4_image_1 10 rfl rfl)
theorem dX4_image_35 : decode cX4_image 35 = .ok (.iload_n 1, 1) := dk_27 (dk_at dksX4_image_1 13 rfl rfl)
theorem dX4_image_36 : decode cX4_image 36 = .ok (.aload_n 0, 1) := dk_42 (dk_at dksX4_image_1 14 rfl rfl)
theorem dX4_image_37 : decode cX4_image 37 = .ok (.getfield 478, 3) := dk_180 1 222 (dk_at dksX4_image_1 15 rfl rfl)
theorem dX4_image_40 : decode cX4_image 40 = .ok (.iastore, 1) := dk_79 (dk_at dksX4_image_1 18 rfl rfl)
theorem dX4_image_41 : decode cX4_image 41 = .ok (.iconst 0, 1) := dk_3 (dk_at dksX4_image_1 19 rfl rfl)
theorem dX4_image_42 : decode cX4_image 42 = .ok (.istore_n 2, 1) := dk_61 (dk_at dksX4_image_1 20 rfl rfl)
theorem dX4_image_43 : decode cX4_image 43 = .ok (.iload_n 2, 1) := dk_28 (dk_at dksX4_image_1 21 rfl rfl)
theorem dX4_image_44 : decode cX4_image 44 = .ok (.bipush 123, 2) := dk_16 123 (dk_at dksX4_image_1 22 rfl rfl)
theorem dX4_image_46 : decode cX4_image 46 = .ok (.if_icmp .ge 26, 3) := dk_162 0 26 (dk_at dksX4_image_2 0 rfl rfl)
theorem dX4_image_49 : decode cX4_image 49 = .ok (.aload_n 0, 1) := dk_42 (dk_at dksX4_image_2 3 rfl rfl)
theorem dX4_image_50 : decode cX4_image 50 = .ok (.getfield 78, 3) := dk_180 0 78 (dk_at dksX4_image_2 4 rfl rfl)
theorem dX4_image_53 : decode cX4_image 53 = .ok (.bipush 123, 2) := dk_16 123 (dk_at dksX4_image_2 7 rfl rfl)
theorem dX4_image_55 : decode cX4_image 55 = .ok (.iload_n 1, 1) := dk_27 (dk_at dksX4_image_2 9 rfl rfl)
theorem dX4_image_56 : decode cX4_image 56 = .ok (.imul, 1) := dk_104 (dk_at dksX4_image_2 10 rfl rfl)
theorem dX4_image_57 : decode cX4_image 57 = .ok (.iload_n 2, 1) := dk_28 (dk_at dksX4_image_2 11 rfl rfl)
theorem dX4_image_58 : decode cX4_image 58 = .ok (.iadd, 1) := dk_96 (dk_at dksX4_image_2 12 rfl rfl)
theorem dX4_image_59 : decode cX4_image 59 = .ok (.aload_n 0, 1) := dk_42 (dk_at dksX4_image_2 13 rfl rfl)
theorem dX4_image_60 : decode cX4_image 60 = .ok (.getfield 39, 3) := dk_180 0 39 (dk_at dksX4_image_2 14 rfl rfl)
theorem dX4_image_63 : decode cX4_image 63 = .ok (.iload_n 2, 1) := dk_28 (dk_at dksX4_image_2 17 rfl rfl)
theorem dX4_image_64 : decode cX4_image 64 = .ok (.iaload, 1) := dk_46 (dk_at dksX4_image_2 18 rfl rfl)
theorem dX4_image_65 : decode cX4_image 65 = .ok (.iastore, 1) := dk_79 (dk_at dksX4_image_2 19 rfl rfl)
theorem dX4_image_66 : decode cX4_image 66 = .ok (.iinc 2 1, 3) := dk_132 2 1 (dk_at dksX4_image_2 20 rfl rfl)
theorem dX4_image_69 : decode cX4_image 69 = .ok (.goto (-26), 3) := dk_167 255 230 (dk_at dksX4_image_3 0 rfl rfl)
theorem dX4_image_72 : decode cX4_image 72 = .ok (.aload_n 0, 1) := dk_42 (dk_at dksX4_image_3 3 rfl rfl)
theorem dX4_image_73 : decode cX4_image 73 = .ok (.getfield 39, 3) := dk_180 0 39 (dk_at dksX4_image_3 4 rfl rfl)
theorem dX4_image_76 : decode cX4_image 76 = .ok (.iconst 3, 1) := dk_6 (dk_at dksX4_image_3 7 rfl rfl)
theorem dX4_image_77 : decode cX4_image 77 = .ok (.iaload, 1) := dk_46 (dk_at dksX4_image_3 8 rfl rfl)
theorem dX4_image_78 : decode cX4_image 78 = .ok (.ireturn, 1) := dk_172 (dk_at dksX4_image_3 9 rfl rfl)
abbrev cX4_back : ByteArray := prog_20_method_122_code
def yX4_back : MethodName := ⟨RX4, "back", "(I)I"⟩
def dkwX4_back_3 : List UInt8 := [79, 132, 2, 1, 167, 255, 230, 42, 180, 0, 39, 6, 46, 172]
abbrev dktX4_back_3 : List UInt8 := dkwX4_back_3 ++ []
def dkwX4_back_2 : List UInt8 := [3, 61, 28, 16, 123, 162, 0, 26, 42, 180, 0, 39, 28, 42, 180, 0, 78, 16, 123, 27, 104, 28, 96, 46]
abbrev dktX4_back_2 : List UInt8 := dkwX4_back_2 ++ dktX4_back_3
def dkwX4_back_1 : List UInt8 := [42, 180, 0, 81, 27, 46, 181, 0, 42, 42, 42, 180, 0, 84, 27, 46, 181, 1, 222, 42, 3, 181, 1, 27]
abbrev dktX4_back_1 : List UInt8 := dkwX4_back_1 ++ dktX4_back_2
def dkwX4_back_0 : List UInt8 := [27, 133, 9, 20, 1, 94, 184, 0, 128, 153, 0, 12, 42, 180, 0, 87, 27, 51, 154, 0, 5, 2, 172, 42]
abbrev dktX4_back_0 : List UInt8 := dkwX4_back_0 ++ dktX4_back_1
theorem dksX4_back_0 : cX4_back.data.toList.drop 0 = dktX4_back_0 := by decide +kernel
theorem dksX4_back_1 : cX4_back.data.toList.drop 24 = dktX4_back_1 := dk_seg dksX4_back_0 24 rfl rfl
theorem dksX4_back_2 : cX4_back.data.toList.drop 48 = dktX4_back_2 := dk_seg dksX4_back_1 24 rfl rfl
theorem dksX4_back_3 : cX4_back.data.toList.drop 72 = dktX4_back_3 := dk_seg dksX4_back_2 24 rfl rfl
theorem dX4_back_0 : decode cX4_back 0 = .ok (.iload_n 1, 1) := dk_27 (dk_at dksX4_back_0 0 rfl rfl)
theorem dX4_back_1 : decode cX4_back 1 = .ok (.i2l, 1) := dk_133 (dk_at dksX4_back_0 1 rfl rfl)
theorem dX4_back_2 : decode cX4_back 2 = .ok (.lconst 0, 1) := dk_9 (dk_at dksX4_back_0 2 rfl rfl)
theorem dX4_back_3 : decode cX4_back 3 = .ok (.ldc2_w 350, 3) := dk_20 1 94 (dk_at dksX4_back_0 3 rfl rfl)
theorem dX4_back_6 : decode cX4_back 6 = .ok (.invokestatic 128, 3) := dk_184 0 128 (dk_at dksX4_back_0 6 rfl rfl)
theorem dX4_back_9 : decode cX4_back 9 = .ok (.ifCond .eq 12, 3) := dk_153 0 12 (dk_at dksX4_back_0 9 rfl rfl)
theorem dX4_back_12 : decode cX4_back 12 = .ok (.aload_n 0, 1) := dk_42 (dk_at dksX4_back_0 12 rfl rfl)
theorem dX4_back_13 : decode cX4_back 13 = .ok (.getfield 87, 3) := dk_180 0 87 (dk_at dksX4_back_0 13 rfl rfl)
theorem dX4_back_16 : decode cX4_back 16 = .ok (.iload_n 1, 1) := dk_27 (dk_at dksX4_back_0 16 rfl rfl)
theorem dX4_back_17 : decode cX4_back 17 = .ok (.baload, 1) := dk_51 (dk_at dksX4_back_0 17 rfl rfl)
theorem dX4_back_18 : decode cX4_back 18 = .ok (.ifCond .ne 5, 3) := dk_154 0 5 (dk_at dksX4_back_0 18 rfl rfl)
theorem dX4_back_21 : decode cX4_back 21 = .ok (.iconst (-1), 1) := dk_2 (dk_at dksX4_back_0 21 rfl rfl)
theorem dX4_back_22 : decode cX4_back 22 = .ok (.ireturn, 1) := dk_172 (dk_at dksX4_back_0 22 rfl rfl)
theorem dX4_back_23 : decode cX4_back 23 = .ok (.aload_n 0, 1) := dk_42 (dk_at dksX4_back_0 23 rfl rfl)
theorem dX4_back_24 : decode cX4_back 24 = .ok (.aload_n 0, 1) := dk_42 (dk_at dksX4_back_1 0 rfl rfl)
theorem dX4_back_25 : decode cX4_back 25 = .ok (.getfield 81, 3) := dk_180 0 81 (dk_at dksX4_back_1 1 rfl rfl)
theorem dX4_back_28 : decode cX4_back 28 = .ok (.iload_n 1, 1) := dk_27 (dk_at dksX4_back_1 4 rfl rfl)
theorem dX4_back_29 : decode cX4_back 29 = .ok (.iaload, 1) := dk_46 (dk_at dksX4_back_1 5 rfl rfl)
theorem dX4_back_30 : decode cX4_back 30 = .ok (.putfield 42, 3) := dk_181 0 42 (dk_at dksX4_back_1 6 rfl rfl)
theorem dX4_back_33 : decode cX4_back 33 = .ok (.aload_n 0, 1) := dk_42 (dk_at dksX4_back_1 9 rfl rfl)
theorem dX4_back_34 : decode cX4_back 34 = .ok (.aload_n 0, 1) := dk_42 (dk_at dksX4_back_1 10 rfl rfl)
theorem dX4_back_35 : decode cX4_back 35 = .ok (.getfield 84, 3) := dk_180 0 84 (dk_at dksX4_back_1 11 rfl rfl)
theorem dX4_back_38 : decode cX4_back 38 = .ok (.iload_n 1, 1) := dk_27 (dk_at dksX4_back_1 14 rfl rfl)
theorem dX4_back_39 : decode cX4_back 39 = .ok (.iaload, 1) := dk_46 (dk_at dksX4_back_1 15 rfl rfl)
theorem dX4_back_40 : decode cX4_back 40 = .ok (.putfield 478, 3) := dk_181 1 222 (dk_at dksX4_back_1 16 rfl rfl)
theorem dX4_back_43 : decode cX4_back 43 = .ok (.aload_n 0, 1) := dk_42 (dk_at dksX4_back_1 19 rfl rfl)
theorem dX4_back_44 : decode cX4_back 44 = .ok (.iconst 0, 1) := dk_3 (dk_at dksX4_back_1 20 rfl rfl)
theorem dX4_back_45 : decode cX4_back 45 = .ok (.putfield 283, 3) := dk_181 1 27 (dk_at dksX4_back_1 21 rfl rfl)
theorem dX4_back_48 : decode cX4_back 48 = .ok (.iconst 0, 1) := dk_3 (dk_at dksX4_back_2 0 rfl rfl)
theorem dX4_back_49 : decode cX4_back 49 = .ok (.istore_n 2, 1) := dk_61 (dk_at dksX4_back_2 1 rfl rfl)
theorem dX4_back_50 : decode cX4_back 50 = .ok (.iload_n 2, 1) := dk_28 (dk_at dksX4_back_2 2 rfl rfl)
theorem dX4_back_51 : decode cX4_back 51 = .ok (.bipush 123, 2) := dk_16 123 (dk_at dksX4_back_2 3 rfl rfl)
theorem dX4_back_53 : decode cX4_back 53 = .ok (.if_icmp .ge 26, 3) := dk_162 0 26 (dk_at dksX4_back_2 5 rfl rfl)
theorem dX4_back_56 : decode cX4_back 56 = .ok (.aload_n 0, 1) := dk_42 (dk_at dksX4_back_2 8 rfl rfl)
theorem dX4_back_57 : decode cX4_back 57 = .ok (.getfield 39, 3) := dk_180 0 39 (dk_at dksX4_back_2 9 rfl rfl)
theorem dX4_back_60 : decode cX4_back 60 = .ok (.iload_n 2, 1) := dk_28 (dk_at dksX4_back_2 12 rfl rfl)
theorem dX4_back_61 : decode cX4_back 61 = .ok (.aload_n 0, 1) := dk_42 (dk_at dksX4_back_2 13 rfl rfl)
theorem dX4_back_62 : decode cX4_back 62 = .ok (.getfield 78, 3) := dk_180 0 78 (dk_at dksX4_back_2 14 rfl rfl)
theorem dX4_back_65 : decode cX4_back 65 = .ok (.bipush 123, 2) := dk_16 123 (dk_at dksX4_back_2 17 rfl rfl)
theorem dX4_back_67 : decode cX4_back 67 = .ok (.iload_n 1, 1) := dk_27 (dk_at dksX4_back_2 19 rfl rfl)
theorem dX4_back_68 : decode cX4_back 68 = .ok (.imul, 1) := dk_104 (dk_at dksX4_back_2 20 rfl rfl)
theorem dX4_back_69 : decode cX4_back 69 = .ok (.iload_n 2, 1) := dk_28 (dk_at dksX4_back_2 21 rfl rfl)
theorem dX4_back_70 : decode cX4_back 70 = .ok (.iadd, 1) := dk_96 (dk_at dksX4_back_2 22 rfl rfl)
theorem dX4_back_71 : decode cX4_back 71 = .ok (.iaload, 1) := dk_46 (dk_at dksX4_back_2 23 rfl rfl)
theorem dX4_back_72 : decode cX4_back 72 = .ok (.iastore, 1) := dk_79 (dk_at dksX4_back_3 0 rfl rfl)
theorem dX4_back_73 : decode cX4_back 73 = .ok (.iinc 2 1, 3) := dk_132 2 1 (dk_at dksX4_back_3 1 rfl rfl)
theorem dX4_back_76 : decode cX4_back 76 = .ok (.goto (-26), 3) := dk_167 255 230 (dk_at dksX4_back_3 4 rfl rfl)
theorem dX4_back_79 : decode cX4_back 79 = .ok (.aload_n 0, 1) := dk_42 (dk_at dksX4_back_3 7 rfl rfl)
theorem dX4_back_80 : decode cX4_back 80 = .ok (.getfield 39, 3) := dk_180 0 39 (dk_at dksX4_back_3 8 rfl rfl)
theorem dX4_back_83 : decode cX4_back 83 = .ok (.iconst 3, 1) := dk_6 (dk_at dksX4_back_3 11 rfl rfl)
theorem dX4_back_84 : decode cX4_back 84 = .ok (.iaload, 1) := dk_46 (dk_at dksX4_back_3 12 rfl rfl)
theorem dX4_back_85 : decode cX4_back 85 = .ok (.ireturn, 1) := dk_172 (dk_at dksX4_back_3 13 rfl rfl)
theorem q159 : (Jvm.Cond.initialized "OutwardDoorsModel") ∈ lw_all := lw_g (lw_at lw_m1 10 rfl) rfl
theorem q717 : (Jvm.Cond.selects "OutwardDoorsModel" ({ cls := "java/lang/Object", name := "getClass", desc := "()Ljava/lang/Class;" } : Jvm.MethodName) ({ cls := "java/lang/Object", name := "getClass", desc := "()Ljava/lang/Class;" } : Jvm.MethodName)) ∈ lw_all := lw_g (lw_at lw_m3 88 rfl) rfl
theorem q1352 : (Jvm.Cond.instantiable "OutwardDoorsModel" (44 : Nat)) ∈ lw_all := lw_g (lw_at lw_m6 3 rfl) rfl
theorem q1354 : (Jvm.Cond.instanceMethod ({ cls := "OutwardDoorsModel", name := "<init>", desc := "()V" } : Jvm.MethodName)) ∈ lw_all := lw_g (lw_at lw_m6 5 rfl) rfl
theorem q1355 : (Jvm.Cond.code ({ cls := "OutwardDoorsModel", name := "<init>", desc := "()V" } : Jvm.MethodName) prog_20_method_1_code (1 : Nat) (Option.none : Option Jvm.ClassFile.FieldType)) ∈ lw_all := lw_g (lw_at lw_m6 6 rfl) rfl
theorem q1356 : (Jvm.Cond.methodLink "OutwardDoorsModel" (1 : Nat) ({ cls := "java/lang/Object", name := "<init>", desc := "()V" } : Jvm.MethodName)) ∈ lw_all := lw_g (lw_at lw_m6 7 rfl) rfl
theorem q1357 : (Jvm.Cond.constant "OutwardDoorsModel" (62 : Nat) (32768 : Int32)) ∈ lw_all := lw_g (lw_at lw_m6 8 rfl) rfl
theorem q1358 : (Jvm.Cond.fieldLink "OutwardDoorsModel" (7 : Nat) "OutwardDoorsModel" "tape" "[B") ∈ lw_all := lw_g (lw_at lw_m6 9 rfl) rfl
theorem q1359 : (Jvm.Cond.fieldLink "OutwardDoorsModel" (90 : Nat) "OutwardDoorsModel" "taped" "I") ∈ lw_all := lw_g (lw_at lw_m6 10 rfl) rfl
theorem q1360 : (Jvm.Cond.fieldLink "OutwardDoorsModel" (270 : Nat) "OutwardDoorsModel" "rules" "I") ∈ lw_all := lw_g (lw_at lw_m6 11 rfl) rfl
theorem q1361 : (Jvm.Cond.fieldLink "OutwardDoorsModel" (13 : Nat) "OutwardDoorsModel" "sign" "[I") ∈ lw_all := lw_g (lw_at lw_m6 12 rfl) rfl
theorem q1362 : (Jvm.Cond.fieldLink "OutwardDoorsModel" (17 : Nat) "OutwardDoorsModel" "length" "[I") ∈ lw_all := lw_g (lw_at lw_m6 13 rfl) rfl
theorem q1363 : (Jvm.Cond.fieldLink "OutwardDoorsModel" (20 : Nat) "OutwardDoorsModel" "clause" "[I") ∈ lw_all := lw_g (lw_at lw_m6 14 rfl) rfl
theorem q1364 : (Jvm.Cond.fieldLink "OutwardDoorsModel" (23 : Nat) "OutwardDoorsModel" "clauses" "[I") ∈ lw_all := lw_g (lw_at lw_m6 15 rfl) rfl
theorem q1365 : (Jvm.Cond.fieldLink "OutwardDoorsModel" (26 : Nat) "OutwardDoorsModel" "read" "[I") ∈ lw_all := lw_g (lw_at lw_m6 16 rfl) rfl
theorem q1366 : (Jvm.Cond.fieldLink "OutwardDoorsModel" (100 : Nat) "OutwardDoorsModel" "next" "I") ∈ lw_all := lw_g (lw_at lw_m6 17 rfl) rfl
theorem q1367 : (Jvm.Cond.fieldLink "OutwardDoorsModel" (97 : Nat) "OutwardDoorsModel" "wrong" "I") ∈ lw_all := lw_g (lw_at lw_m6 18 rfl) rfl
theorem q1368 : (Jvm.Cond.fieldLink "OutwardDoorsModel" (125 : Nat) "OutwardDoorsModel" "number" "I") ∈ lw_all := lw_g (lw_at lw_m6 19 rfl) rfl
theorem q1369 : (Jvm.Cond.fieldLink "OutwardDoorsModel" (156 : Nat) "OutwardDoorsModel" "text" "I") ∈ lw_all := lw_g (lw_at lw_m6 20 rfl) rfl
theorem q1370 : (Jvm.Cond.fieldLink "OutwardDoorsModel" (159 : Nat) "OutwardDoorsModel" "made" "I") ∈ lw_all := lw_g (lw_at lw_m6 21 rfl) rfl
theorem q1371 : (Jvm.Cond.fieldLink "OutwardDoorsModel" (162 : Nat) "OutwardDoorsModel" "deep" "I") ∈ lw_all := lw_g (lw_at lw_m6 22 rfl) rfl
theorem q1372 : (Jvm.Cond.fieldLink "OutwardDoorsModel" (258 : Nat) "OutwardDoorsModel" "lines" "I") ∈ lw_all := lw_g (lw_at lw_m6 23 rfl) rfl
theorem q1373 : (Jvm.Cond.fieldLink "OutwardDoorsModel" (29 : Nat) "OutwardDoorsModel" "open" "[I") ∈ lw_all := lw_g (lw_at lw_m6 24 rfl) rfl
theorem q1374 : (Jvm.Cond.fieldLink "OutwardDoorsModel" (165 : Nat) "OutwardDoorsModel" "opened" "I") ∈ lw_all := lw_g (lw_at lw_m6 25 rfl) rfl
theorem q1375 : (Jvm.Cond.fieldLink "OutwardDoorsModel" (32 : Nat) "OutwardDoorsModel" "stack" "[J") ∈ lw_all := lw_g (lw_at lw_m6 26 rfl) rfl
theorem q1376 : (Jvm.Cond.fieldLink "OutwardDoorsModel" (286 : Nat) "OutwardDoorsModel" "top" "I") ∈ lw_all := lw_g (lw_at lw_m6 27 rfl) rfl
theorem q1377 : (Jvm.Cond.fieldLink "OutwardDoorsModel" (36 : Nat) "OutwardDoorsModel" "word" "[J") ∈ lw_all := lw_g (lw_at lw_m6 28 rfl) rfl
theorem q1378 : (Jvm.Cond.fieldLink "OutwardDoorsModel" (39 : Nat) "OutwardDoorsModel" "said" "[I") ∈ lw_all := lw_g (lw_at lw_m6 29 rfl) rfl
theorem q1379 : (Jvm.Cond.fieldLink "OutwardDoorsModel" (42 : Nat) "OutwardDoorsModel" "force" "I") ∈ lw_all := lw_g (lw_at lw_m6 30 rfl) rfl
theorem q1380 : (Jvm.Cond.fieldLink "OutwardDoorsModel" (478 : Nat) "OutwardDoorsModel" "x" "I") ∈ lw_all := lw_g (lw_at lw_m6 31 rfl) rfl
theorem q1381 : (Jvm.Cond.fieldLink "OutwardDoorsModel" (46 : Nat) "OutwardDoorsModel" "doorsTo" "[I") ∈ lw_all := lw_g (lw_at lw_m6 32 rfl) rfl
theorem q1382 : (Jvm.Cond.fieldLink "OutwardDoorsModel" (49 : Nat) "OutwardDoorsModel" "willDoor" "[I") ∈ lw_all := lw_g (lw_at lw_m6 33 rfl) rfl
theorem q1383 : (Jvm.Cond.fieldLink "OutwardDoorsModel" (52 : Nat) "OutwardDoorsModel" "willOut" "[Z") ∈ lw_all := lw_g (lw_at lw_m6 34 rfl) rfl
theorem q1384 : (Jvm.Cond.fieldLink "OutwardDoorsModel" (56 : Nat) "OutwardDoorsModel" "wasSaid" "[I") ∈ lw_all := lw_g (lw_at lw_m6 35 rfl) rfl
theorem q1385 : (Jvm.Cond.fieldLink "OutwardDoorsModel" (283 : Nat) "OutwardDoorsModel" "undone" "I") ∈ lw_all := lw_g (lw_at lw_m6 36 rfl) rfl
theorem q1386 : (Jvm.Cond.fieldLink "OutwardDoorsModel" (59 : Nat) "OutwardDoorsModel" "kept" "[I") ∈ lw_all := lw_g (lw_at lw_m6 37 rfl) rfl
theorem q1387 : (Jvm.Cond.fieldLink "OutwardDoorsModel" (63 : Nat) "OutwardDoorsModel" "passings" "[I") ∈ lw_all := lw_g (lw_at lw_m6 38 rfl) rfl
theorem q1388 : (Jvm.Cond.fieldLink "OutwardDoorsModel" (66 : Nat) "OutwardDoorsModel" "queue" "[I") ∈ lw_all := lw_g (lw_at lw_m6 39 rfl) rfl
theorem q1389 : (Jvm.Cond.fieldLink "OutwardDoorsModel" (412 : Nat) "OutwardDoorsModel" "queued" "I") ∈ lw_all := lw_g (lw_at lw_m6 40 rfl) rfl
theorem q1390 : (Jvm.Cond.fieldLink "OutwardDoorsModel" (415 : Nat) "OutwardDoorsModel" "many1" "I") ∈ lw_all := lw_g (lw_at lw_m6 41 rfl) rfl
theorem q1391 : (Jvm.Cond.fieldLink "OutwardDoorsModel" (446 : Nat) "OutwardDoorsModel" "wentOut" "I") ∈ lw_all := lw_g (lw_at lw_m6 42 rfl) rfl
theorem q1392 : (Jvm.Cond.fieldLink "OutwardDoorsModel" (449 : Nat) "OutwardDoorsModel" "wentBy" "I") ∈ lw_all := lw_g (lw_at lw_m6 43 rfl) rfl
theorem q1393 : (Jvm.Cond.fieldLink "OutwardDoorsModel" (452 : Nat) "OutwardDoorsModel" "cameIn" "I") ∈ lw_all := lw_g (lw_at lw_m6 44 rfl) rfl
theorem q1394 : (Jvm.Cond.fieldLink "OutwardDoorsModel" (69 : Nat) "OutwardDoorsModel" "pay" "[I") ∈ lw_all := lw_g (lw_at lw_m6 45 rfl) rfl
theorem q1395 : (Jvm.Cond.fieldLink "OutwardDoorsModel" (72 : Nat) "OutwardDoorsModel" "isFit" "[Z") ∈ lw_all := lw_g (lw_at lw_m6 46 rfl) rfl
theorem q1396 : (Jvm.Cond.fieldLink "OutwardDoorsModel" (75 : Nat) "OutwardDoorsModel" "roomThen" "[I") ∈ lw_all := lw_g (lw_at lw_m6 47 rfl) rfl
theorem q1397 : (Jvm.Cond.fieldLink "OutwardDoorsModel" (481 : Nat) "OutwardDoorsModel" "drawX" "J") ∈ lw_all := lw_g (lw_at lw_m6 48 rfl) rfl
theorem q1398 : (Jvm.Cond.fieldLink "OutwardDoorsModel" (78 : Nat) "OutwardDoorsModel" "images" "[I") ∈ lw_all := lw_g (lw_at lw_m6 49 rfl) rfl
theorem q1399 : (Jvm.Cond.fieldLink "OutwardDoorsModel" (81 : Nat) "OutwardDoorsModel" "imageForce" "[I") ∈ lw_all := lw_g (lw_at lw_m6 50 rfl) rfl
theorem q1400 : (Jvm.Cond.fieldLink "OutwardDoorsModel" (84 : Nat) "OutwardDoorsModel" "imageX" "[I") ∈ lw_all := lw_g (lw_at lw_m6 51 rfl) rfl
theorem q1401 : (Jvm.Cond.fieldLink "OutwardDoorsModel" (87 : Nat) "OutwardDoorsModel" "isMade" "[Z") ∈ lw_all := lw_g (lw_at lw_m6 52 rfl) rfl
theorem q1402 : (Jvm.Cond.laysFinal "OutwardDoorsModel" "OutwardDoorsModel" "tape" "[B") ∈ lw_all := lw_g (lw_at lw_m6 53 rfl) rfl
theorem q1403 : (Jvm.Cond.soleField "OutwardDoorsModel" "tape") ∈ lw_all := lw_g (lw_at lw_m6 54 rfl) rfl
theorem q1404 : (Jvm.Cond.lays "OutwardDoorsModel" "OutwardDoorsModel" "taped" "I") ∈ lw_all := lw_g (lw_at lw_m6 55 rfl) rfl
theorem q1405 : (Jvm.Cond.soleField "OutwardDoorsModel" "taped") ∈ lw_all := lw_g (lw_at lw_m6 56 rfl) rfl
theorem q1406 : (Jvm.Cond.lays "OutwardDoorsModel" "OutwardDoorsModel" "rules" "I") ∈ lw_all := lw_g (lw_at lw_m6 57 rfl) rfl
theorem q1407 : (Jvm.Cond.soleField "OutwardDoorsModel" "rules") ∈ lw_all := lw_g (lw_at lw_m6 58 rfl) rfl
theorem q1408 : (Jvm.Cond.laysFinal "OutwardDoorsModel" "OutwardDoorsModel" "sign" "[I") ∈ lw_all := lw_g (lw_at lw_m6 59 rfl) rfl
theorem q1409 : (Jvm.Cond.soleField "OutwardDoorsModel" "sign") ∈ lw_all := lw_g (lw_at lw_m6 60 rfl) rfl
theorem q1410 : (Jvm.Cond.laysFinal "OutwardDoorsModel" "OutwardDoorsModel" "length" "[I") ∈ lw_all := lw_g (lw_at lw_m6 61 rfl) rfl
theorem q1411 : (Jvm.Cond.soleField "OutwardDoorsModel" "length") ∈ lw_all := lw_g (lw_at lw_m6 62 rfl) rfl
theorem q1412 : (Jvm.Cond.laysFinal "OutwardDoorsModel" "OutwardDoorsModel" "clause" "[I") ∈ lw_all := lw_g (lw_at lw_m6 63 rfl) rfl
theorem q1413 : (Jvm.Cond.soleField "OutwardDoorsModel" "clause") ∈ lw_all := lw_g (lw_at lw_m6 64 rfl) rfl
theorem q1414 : (Jvm.Cond.laysFinal "OutwardDoorsModel" "OutwardDoorsModel" "clauses" "[I") ∈ lw_all := lw_g (lw_at lw_m6 65 rfl) rfl
theorem q1415 : (Jvm.Cond.soleField "OutwardDoorsModel" "clauses") ∈ lw_all := lw_g (lw_at lw_m6 66 rfl) rfl
theorem q1416 : (Jvm.Cond.laysFinal "OutwardDoorsModel" "OutwardDoorsModel" "read" "[I") ∈ lw_all := lw_g (lw_at lw_m6 67 rfl) rfl
theorem q1417 : (Jvm.Cond.soleField "OutwardDoorsModel" "read") ∈ lw_all := lw_g (lw_at lw_m6 68 rfl) rfl
theorem q1418 : (Jvm.Cond.lays "OutwardDoorsModel" "OutwardDoorsModel" "next" "I") ∈ lw_all := lw_g (lw_at lw_m6 69 rfl) rfl
theorem q1419 : (Jvm.Cond.soleField "OutwardDoorsModel" "next") ∈ lw_all := lw_g (lw_at lw_m6 70 rfl) rfl
theorem q1420 : (Jvm.Cond.lays "OutwardDoorsModel" "OutwardDoorsModel" "wrong" "I") ∈ lw_all := lw_g (lw_at lw_m6 71 rfl) rfl
theorem q1421 : (Jvm.Cond.soleField "OutwardDoorsModel" "wrong") ∈ lw_all := lw_g (lw_at lw_m6 72 rfl) rfl
theorem q1422 : (Jvm.Cond.lays "OutwardDoorsModel" "OutwardDoorsModel" "number" "I") ∈ lw_all := lw_g (lw_at lw_m6 73 rfl) rfl
theorem q1423 : (Jvm.Cond.soleField "OutwardDoorsModel" "number") ∈ lw_all := lw_g (lw_at lw_m6 74 rfl) rfl
theorem q1424 : (Jvm.Cond.lays "OutwardDoorsModel" "OutwardDoorsModel" "text" "I") ∈ lw_all := lw_g (lw_at lw_m6 75 rfl) rfl
theorem q1425 : (Jvm.Cond.soleField "OutwardDoorsModel" "text") ∈ lw_all := lw_g (lw_at lw_m6 76 rfl) rfl
theorem q1426 : (Jvm.Cond.lays "OutwardDoorsModel" "OutwardDoorsModel" "made" "I") ∈ lw_all := lw_g (lw_at lw_m6 77 rfl) rfl
theorem q1427 : (Jvm.Cond.soleField "OutwardDoorsModel" "made") ∈ lw_all := lw_g (lw_at lw_m6 78 rfl) rfl
theorem q1428 : (Jvm.Cond.lays "OutwardDoorsModel" "OutwardDoorsModel" "deep" "I") ∈ lw_all := lw_g (lw_at lw_m6 79 rfl) rfl
theorem q1429 : (Jvm.Cond.soleField "OutwardDoorsModel" "deep") ∈ lw_all := lw_g (lw_at lw_m6 80 rfl) rfl
theorem q1430 : (Jvm.Cond.lays "OutwardDoorsModel" "OutwardDoorsModel" "lines" "I") ∈ lw_all := lw_g (lw_at lw_m6 81 rfl) rfl
theorem q1431 : (Jvm.Cond.soleField "OutwardDoorsModel" "lines") ∈ lw_all := lw_g (lw_at lw_m6 82 rfl) rfl
theorem q1432 : (Jvm.Cond.laysFinal "OutwardDoorsModel" "OutwardDoorsModel" "open" "[I") ∈ lw_all := lw_g (lw_at lw_m6 83 rfl) rfl
theorem q1433 : (Jvm.Cond.soleField "OutwardDoorsModel" "open") ∈ lw_all := lw_g (lw_at lw_m6 84 rfl) rfl
theorem q1434 : (Jvm.Cond.lays "OutwardDoorsModel" "OutwardDoorsModel" "opened" "I") ∈ lw_all := lw_g (lw_at lw_m6 85 rfl) rfl
theorem q1435 : (Jvm.Cond.soleField "OutwardDoorsModel" "opened") ∈ lw_all := lw_g (lw_at lw_m6 86 rfl) rfl
theorem q1436 : (Jvm.Cond.laysFinal "OutwardDoorsModel" "OutwardDoorsModel" "stack" "[J") ∈ lw_all := lw_g (lw_at lw_m6 87 rfl) rfl
theorem q1437 : (Jvm.Cond.soleField "OutwardDoorsModel" "stack") ∈ lw_all := lw_g (lw_at lw_m6 88 rfl) rfl
theorem q1438 : (Jvm.Cond.lays "OutwardDoorsModel" "OutwardDoorsModel" "top" "I") ∈ lw_all := lw_g (lw_at lw_m6 89 rfl) rfl
theorem q1439 : (Jvm.Cond.soleField "OutwardDoorsModel" "top") ∈ lw_all := lw_g (lw_at lw_m6 90 rfl) rfl
theorem q1440 : (Jvm.Cond.laysFinal "OutwardDoorsModel" "OutwardDoorsModel" "word" "[J") ∈ lw_all := lw_g (lw_at lw_m6 91 rfl) rfl
theorem q1441 : (Jvm.Cond.soleField "OutwardDoorsModel" "word") ∈ lw_all := lw_g (lw_at lw_m6 92 rfl) rfl
theorem q1442 : (Jvm.Cond.laysFinal "OutwardDoorsModel" "OutwardDoorsModel" "said" "[I") ∈ lw_all := lw_g (lw_at lw_m6 93 rfl) rfl
theorem q1443 : (Jvm.Cond.soleField "OutwardDoorsModel" "said") ∈ lw_all := lw_g (lw_at lw_m6 94 rfl) rfl
theorem q1444 : (Jvm.Cond.lays "OutwardDoorsModel" "OutwardDoorsModel" "force" "I") ∈ lw_all := lw_g (lw_at lw_m6 95 rfl) rfl
theorem q1445 : (Jvm.Cond.soleField "OutwardDoorsModel" "force") ∈ lw_all := lw_g (lw_at lw_m6 96 rfl) rfl
theorem q1446 : (Jvm.Cond.lays "OutwardDoorsModel" "OutwardDoorsModel" "x" "I") ∈ lw_all := lw_g (lw_at lw_m6 97 rfl) rfl
theorem q1447 : (Jvm.Cond.soleField "OutwardDoorsModel" "x") ∈ lw_all := lw_g (lw_at lw_m6 98 rfl) rfl
theorem q1448 : (Jvm.Cond.laysFinal "OutwardDoorsModel" "OutwardDoorsModel" "doorsTo" "[I") ∈ lw_all := lw_g (lw_at lw_m6 99 rfl) rfl
theorem q1449 : (Jvm.Cond.soleField "OutwardDoorsModel" "doorsTo") ∈ lw_all := lw_g (lw_at lw_m6 100 rfl) rfl
theorem q1450 : (Jvm.Cond.laysFinal "OutwardDoorsModel" "OutwardDoorsModel" "willDoor" "[I") ∈ lw_all := lw_g (lw_at lw_m6 101 rfl) rfl
theorem q1451 : (Jvm.Cond.soleField "OutwardDoorsModel" "willDoor") ∈ lw_all := lw_g (lw_at lw_m6 102 rfl) rfl
theorem q1452 : (Jvm.Cond.laysFinal "OutwardDoorsModel" "OutwardDoorsModel" "willOut" "[Z") ∈ lw_all := lw_g (lw_at lw_m6 103 rfl) rfl
theorem q1453 : (Jvm.Cond.soleField "OutwardDoorsModel" "willOut") ∈ lw_all := lw_g (lw_at lw_m6 104 rfl) rfl
theorem q1454 : (Jvm.Cond.laysFinal "OutwardDoorsModel" "OutwardDoorsModel" "wasSaid" "[I") ∈ lw_all := lw_g (lw_at lw_m6 105 rfl) rfl
theorem q1455 : (Jvm.Cond.soleField "OutwardDoorsModel" "wasSaid") ∈ lw_all := lw_g (lw_at lw_m6 106 rfl) rfl
theorem q1456 : (Jvm.Cond.lays "OutwardDoorsModel" "OutwardDoorsModel" "undone" "I") ∈ lw_all := lw_g (lw_at lw_m6 107 rfl) rfl
theorem q1457 : (Jvm.Cond.soleField "OutwardDoorsModel" "undone") ∈ lw_all := lw_g (lw_at lw_m6 108 rfl) rfl
theorem q1458 : (Jvm.Cond.laysFinal "OutwardDoorsModel" "OutwardDoorsModel" "kept" "[I") ∈ lw_all := lw_g (lw_at lw_m6 109 rfl) rfl
theorem q1459 : (Jvm.Cond.soleField "OutwardDoorsModel" "kept") ∈ lw_all := lw_g (lw_at lw_m6 110 rfl) rfl
theorem q1460 : (Jvm.Cond.laysFinal "OutwardDoorsModel" "OutwardDoorsModel" "passings" "[I") ∈ lw_all := lw_g (lw_at lw_m6 111 rfl) rfl
theorem q1461 : (Jvm.Cond.soleField "OutwardDoorsModel" "passings") ∈ lw_all := lw_g (lw_at lw_m6 112 rfl) rfl
theorem q1462 : (Jvm.Cond.laysFinal "OutwardDoorsModel" "OutwardDoorsModel" "queue" "[I") ∈ lw_all := lw_g (lw_at lw_m6 113 rfl) rfl
theorem q1463 : (Jvm.Cond.soleField "OutwardDoorsModel" "queue") ∈ lw_all := lw_g (lw_at lw_m6 114 rfl) rfl
theorem q1464 : (Jvm.Cond.lays "OutwardDoorsModel" "OutwardDoorsModel" "queued" "I") ∈ lw_all := lw_g (lw_at lw_m6 115 rfl) rfl
theorem q1465 : (Jvm.Cond.soleField "OutwardDoorsModel" "queued") ∈ lw_all := lw_g (lw_at lw_m6 116 rfl) rfl
theorem q1466 : (Jvm.Cond.lays "OutwardDoorsModel" "OutwardDoorsModel" "many1" "I") ∈ lw_all := lw_g (lw_at lw_m6 117 rfl) rfl
theorem q1467 : (Jvm.Cond.soleField "OutwardDoorsModel" "many1") ∈ lw_all := lw_g (lw_at lw_m6 118 rfl) rfl
theorem q1468 : (Jvm.Cond.lays "OutwardDoorsModel" "OutwardDoorsModel" "wentOut" "I") ∈ lw_all := lw_g (lw_at lw_m6 119 rfl) rfl
theorem q1469 : (Jvm.Cond.soleField "OutwardDoorsModel" "wentOut") ∈ lw_all := lw_g (lw_at lw_m6 120 rfl) rfl
theorem q1470 : (Jvm.Cond.lays "OutwardDoorsModel" "OutwardDoorsModel" "wentBy" "I") ∈ lw_all := lw_g (lw_at lw_m6 121 rfl) rfl
theorem q1471 : (Jvm.Cond.soleField "OutwardDoorsModel" "wentBy") ∈ lw_all := lw_g (lw_at lw_m6 122 rfl) rfl
theorem q1472 : (Jvm.Cond.lays "OutwardDoorsModel" "OutwardDoorsModel" "cameIn" "I") ∈ lw_all := lw_g (lw_at lw_m6 123 rfl) rfl
theorem q1473 : (Jvm.Cond.soleField "OutwardDoorsModel" "cameIn") ∈ lw_all := lw_g (lw_at lw_m6 124 rfl) rfl
theorem q1474 : (Jvm.Cond.laysFinal "OutwardDoorsModel" "OutwardDoorsModel" "pay" "[I") ∈ lw_all := lw_g (lw_at lw_m6 125 rfl) rfl
theorem q1475 : (Jvm.Cond.soleField "OutwardDoorsModel" "pay") ∈ lw_all := lw_g (lw_at lw_m6 126 rfl) rfl
theorem q1476 : (Jvm.Cond.laysFinal "OutwardDoorsModel" "OutwardDoorsModel" "isFit" "[Z") ∈ lw_all := lw_g (lw_at lw_m6 127 rfl) rfl
theorem q1477 : (Jvm.Cond.soleField "OutwardDoorsModel" "isFit") ∈ lw_all := lw_g (lw_at lw_m6 128 rfl) rfl
theorem q1478 : (Jvm.Cond.laysFinal "OutwardDoorsModel" "OutwardDoorsModel" "roomThen" "[I") ∈ lw_all := lw_g (lw_at lw_m6 129 rfl) rfl
theorem q1479 : (Jvm.Cond.soleField "OutwardDoorsModel" "roomThen") ∈ lw_all := lw_g (lw_at lw_m6 130 rfl) rfl
theorem q1480 : (Jvm.Cond.lays "OutwardDoorsModel" "OutwardDoorsModel" "drawX" "J") ∈ lw_all := lw_g (lw_at lw_m6 131 rfl) rfl
theorem q1481 : (Jvm.Cond.soleField "OutwardDoorsModel" "drawX") ∈ lw_all := lw_g (lw_at lw_m6 132 rfl) rfl
theorem q1482 : (Jvm.Cond.laysFinal "OutwardDoorsModel" "OutwardDoorsModel" "images" "[I") ∈ lw_all := lw_g (lw_at lw_m6 133 rfl) rfl
theorem q1483 : (Jvm.Cond.soleField "OutwardDoorsModel" "images") ∈ lw_all := lw_g (lw_at lw_m6 134 rfl) rfl
theorem q1484 : (Jvm.Cond.laysFinal "OutwardDoorsModel" "OutwardDoorsModel" "imageForce" "[I") ∈ lw_all := lw_g (lw_at lw_m6 135 rfl) rfl
theorem q1485 : (Jvm.Cond.soleField "OutwardDoorsModel" "imageForce") ∈ lw_all := lw_g (lw_at lw_m6 136 rfl) rfl
theorem q1486 : (Jvm.Cond.laysFinal "OutwardDoorsModel" "OutwardDoorsModel" "imageX" "[I") ∈ lw_all := lw_g (lw_at lw_m6 137 rfl) rfl
theorem q1487 : (Jvm.Cond.soleField "OutwardDoorsModel" "imageX") ∈ lw_all := lw_g (lw_at lw_m6 138 rfl) rfl
theorem q1488 : (Jvm.Cond.laysFinal "OutwardDoorsModel" "OutwardDoorsModel" "isMade" "[Z") ∈ lw_all := lw_g (lw_at lw_m6 139 rfl) rfl
theorem q1489 : (Jvm.Cond.soleField "OutwardDoorsModel" "isMade") ∈ lw_all := lw_g (lw_at lw_m6 140 rfl) rfl
theorem q1490 : (Jvm.Cond.superclass "OutwardDoorsModel" "java/lang/Object") ∈ lw_all := lw_g (lw_at lw_m6 141 rfl) rfl
theorem q1492 : (Jvm.Cond.instanceMethod ({ cls := "OutwardDoorsModel", name := "feed", desc := "(IIIII)I" } : Jvm.MethodName)) ∈ lw_all := lw_g (lw_at lw_m6 143 rfl) rfl
theorem q1493 : (Jvm.Cond.selects "OutwardDoorsModel" ({ cls := "OutwardDoorsModel", name := "feed", desc := "(IIIII)I" } : Jvm.MethodName) ({ cls := "OutwardDoorsModel", name := "feed", desc := "(IIIII)I" } : Jvm.MethodName)) ∈ lw_all := lw_g (lw_at lw_m6 144 rfl) rfl
theorem q1494 : (Jvm.Cond.code ({ cls := "OutwardDoorsModel", name := "feed", desc := "(IIIII)I" } : Jvm.MethodName) prog_20_method_5_code (6 : Nat) (Option.some Jvm.ClassFile.FieldType.int)) ∈ lw_all := lw_g (lw_at lw_m6 145 rfl) rfl
theorem q1495 : (Jvm.Cond.methodLink "OutwardDoorsModel" (93 : Nat) ({ cls := "OutwardDoorsModel", name := "four", desc := "(I)V" } : Jvm.MethodName)) ∈ lw_all := lw_g (lw_at lw_m6 146 rfl) rfl
theorem q1496 : (Jvm.Cond.privateMethod ({ cls := "OutwardDoorsModel", name := "four", desc := "(I)V" } : Jvm.MethodName)) ∈ lw_tbl := lw_at lw_m6 147 rfl
theorem q1497 : (Jvm.Cond.instanceMethod ({ cls := "OutwardDoorsModel", name := "four", desc := "(I)V" } : Jvm.MethodName)) ∈ lw_all := lw_g (lw_at lw_m6 148 rfl) rfl
theorem q1498 : (Jvm.Cond.code ({ cls := "OutwardDoorsModel", name := "four", desc := "(I)V" } : Jvm.MethodName) prog_20_method_4_code (3 : Nat) (Option.none : Option Jvm.ClassFile.FieldType)) ∈ lw_all := lw_g (lw_at lw_m6 149 rfl) rfl
theorem q1500 : (Jvm.Cond.instanceMethod ({ cls := "OutwardDoorsModel", name := "end", desc := "(I)I" } : Jvm.MethodName)) ∈ lw_all := lw_g (lw_at lw_m6 151 rfl) rfl
theorem q1501 : (Jvm.Cond.selects "OutwardDoorsModel" ({ cls := "OutwardDoorsModel", name := "end", desc := "(I)I" } : Jvm.MethodName) ({ cls := "OutwardDoorsModel", name := "end", desc := "(I)I" } : Jvm.MethodName)) ∈ lw_all := lw_g (lw_at lw_m6 152 rfl) rfl
theorem q1502 : (Jvm.Cond.code ({ cls := "OutwardDoorsModel", name := "end", desc := "(I)I" } : Jvm.MethodName) prog_20_method_6_code (2 : Nat) (Option.some Jvm.ClassFile.FieldType.int)) ∈ lw_all := lw_g (lw_at lw_m6 153 rfl) rfl
theorem q1504 : (Jvm.Cond.instanceMethod ({ cls := "OutwardDoorsModel", name := "rule", desc := "()I" } : Jvm.MethodName)) ∈ lw_all := lw_g (lw_at lw_m6 155 rfl) rfl
theorem q1505 : (Jvm.Cond.selects "OutwardDoorsModel" ({ cls := "OutwardDoorsModel", name := "rule", desc := "()I" } : Jvm.MethodName) ({ cls := "OutwardDoorsModel", name := "rule", desc := "()I" } : Jvm.MethodName)) ∈ lw_all := lw_g (lw_at lw_m6 156 rfl) rfl
theorem q1506 : (Jvm.Cond.code ({ cls := "OutwardDoorsModel", name := "rule", desc := "()I" } : Jvm.MethodName) prog_20_method_40_code (1 : Nat) (Option.some Jvm.ClassFile.FieldType.int)) ∈ lw_all := lw_g (lw_at lw_m6 157 rfl) rfl
theorem q1507 : (Jvm.Cond.methodLink "OutwardDoorsModel" (273 : Nat) ({ cls := "OutwardDoorsModel", name := "readsAll", desc := "()Z" } : Jvm.MethodName)) ∈ lw_all := lw_g (lw_at lw_m6 158 rfl) rfl
theorem q1508 : (Jvm.Cond.privateMethod ({ cls := "OutwardDoorsModel", name := "readsAll", desc := "()Z" } : Jvm.MethodName)) ∈ lw_tbl := lw_at lw_m6 159 rfl
theorem q1509 : (Jvm.Cond.instanceMethod ({ cls := "OutwardDoorsModel", name := "readsAll", desc := "()Z" } : Jvm.MethodName)) ∈ lw_all := lw_g (lw_at lw_m6 160 rfl) rfl
theorem q1510 : (Jvm.Cond.code ({ cls := "OutwardDoorsModel", name := "readsAll", desc := "()Z" } : Jvm.MethodName) prog_20_method_39_code (2 : Nat) (Option.some Jvm.ClassFile.FieldType.boolean)) ∈ lw_all := lw_g (lw_at lw_m6 161 rfl) rfl
theorem q1511 : (Jvm.Cond.methodLink "OutwardDoorsModel" (267 : Nat) ({ cls := "OutwardDoorsModel", name := "clauseHere", desc := "()Z" } : Jvm.MethodName)) ∈ lw_all := lw_g (lw_at lw_m6 162 rfl) rfl
theorem q1512 : (Jvm.Cond.privateMethod ({ cls := "OutwardDoorsModel", name := "clauseHere", desc := "()Z" } : Jvm.MethodName)) ∈ lw_tbl := lw_at lw_m6 163 rfl
theorem q1513 : (Jvm.Cond.instanceMethod ({ cls := "OutwardDoorsModel", name := "clauseHere", desc := "()Z" } : Jvm.MethodName)) ∈ lw_all := lw_g (lw_at lw_m6 164 rfl) rfl
theorem q1514 : (Jvm.Cond.code ({ cls := "OutwardDoorsModel", name := "clauseHere", desc := "()Z" } : Jvm.MethodName) prog_20_method_38_code (3 : Nat) (Option.some Jvm.ClassFile.FieldType.boolean)) ∈ lw_all := lw_g (lw_at lw_m6 165 rfl) rfl
theorem q1515 : (Jvm.Cond.methodLink "OutwardDoorsModel" (103 : Nat) ({ cls := "OutwardDoorsModel", name := "see", desc := "()I" } : Jvm.MethodName)) ∈ lw_all := lw_g (lw_at lw_m6 166 rfl) rfl
theorem q1516 : (Jvm.Cond.privateMethod ({ cls := "OutwardDoorsModel", name := "see", desc := "()I" } : Jvm.MethodName)) ∈ lw_tbl := lw_at lw_m6 167 rfl
theorem q1517 : (Jvm.Cond.instanceMethod ({ cls := "OutwardDoorsModel", name := "see", desc := "()I" } : Jvm.MethodName)) ∈ lw_all := lw_g (lw_at lw_m6 168 rfl) rfl
theorem q1518 : (Jvm.Cond.code ({ cls := "OutwardDoorsModel", name := "see", desc := "()I" } : Jvm.MethodName) prog_20_method_8_code (1 : Nat) (Option.some Jvm.ClassFile.FieldType.int)) ∈ lw_all := lw_g (lw_at lw_m6 169 rfl) rfl
theorem q1519 : (Jvm.Cond.methodLink "OutwardDoorsModel" (253 : Nat) ({ cls := "OutwardDoorsModel", name := "isCastleWord", desc := "()Z" } : Jvm.MethodName)) ∈ lw_all := lw_g (lw_at lw_m6 170 rfl) rfl
theorem q1520 : (Jvm.Cond.privateMethod ({ cls := "OutwardDoorsModel", name := "isCastleWord", desc := "()Z" } : Jvm.MethodName)) ∈ lw_tbl := lw_at lw_m6 171 rfl
theorem q1521 : (Jvm.Cond.instanceMethod ({ cls := "OutwardDoorsModel", name := "isCastleWord", desc := "()Z" } : Jvm.MethodName)) ∈ lw_all := lw_g (lw_at lw_m6 172 rfl) rfl
theorem q1522 : (Jvm.Cond.code ({ cls := "OutwardDoorsModel", name := "isCastleWord", desc := "()Z" } : Jvm.MethodName) prog_20_method_37_code (1 : Nat) (Option.some Jvm.ClassFile.FieldType.boolean)) ∈ lw_all := lw_g (lw_at lw_m6 173 rfl) rfl
theorem q1523 : (Jvm.Cond.constantLong "OutwardDoorsModel" (232 : Nat) (109270199987301 : Int64)) ∈ lw_all := lw_g (lw_at lw_m6 174 rfl) rfl
theorem q1524 : (Jvm.Cond.methodLink "OutwardDoorsModel" (111 : Nat) ({ cls := "OutwardDoorsModel", name := "isWord", desc := "(J)Z" } : Jvm.MethodName)) ∈ lw_all := lw_g (lw_at lw_m6 175 rfl) rfl
theorem q1525 : (Jvm.Cond.privateMethod ({ cls := "OutwardDoorsModel", name := "isWord", desc := "(J)Z" } : Jvm.MethodName)) ∈ lw_tbl := lw_at lw_m6 176 rfl
theorem q1526 : (Jvm.Cond.instanceMethod ({ cls := "OutwardDoorsModel", name := "isWord", desc := "(J)Z" } : Jvm.MethodName)) ∈ lw_all := lw_g (lw_at lw_m6 177 rfl) rfl
theorem q1527 : (Jvm.Cond.code ({ cls := "OutwardDoorsModel", name := "isWord", desc := "(J)Z" } : Jvm.MethodName) prog_20_method_11_code (6 : Nat) (Option.some Jvm.ClassFile.FieldType.boolean)) ∈ lw_all := lw_g (lw_at lw_m6 178 rfl) rfl
theorem q1528 : (Jvm.Cond.methodLink "OutwardDoorsModel" (107 : Nat) ({ cls := "OutwardDoorsModel", name := "isLetter", desc := "(I)Z" } : Jvm.MethodName)) ∈ lw_all := lw_g (lw_at lw_m6 179 rfl) rfl
theorem q1529 : (Jvm.Cond.privateMethod ({ cls := "OutwardDoorsModel", name := "isLetter", desc := "(I)Z" } : Jvm.MethodName)) ∈ lw_tbl := lw_at lw_m6 180 rfl
theorem q1530 : (Jvm.Cond.instanceMethod ({ cls := "OutwardDoorsModel", name := "isLetter", desc := "(I)Z" } : Jvm.MethodName)) ∈ lw_all := lw_g (lw_at lw_m6 181 rfl) rfl
theorem q1531 : (Jvm.Cond.code ({ cls := "OutwardDoorsModel", name := "isLetter", desc := "(I)Z" } : Jvm.MethodName) prog_20_method_10_code (2 : Nat) (Option.some Jvm.ClassFile.FieldType.boolean)) ∈ lw_all := lw_g (lw_at lw_m6 182 rfl) rfl
theorem q1532 : (Jvm.Cond.constantLong "OutwardDoorsModel" (136 : Nat) (6709618 : Int64)) ∈ lw_all := lw_g (lw_at lw_m6 183 rfl) rfl
theorem q1533 : (Jvm.Cond.constantLong "OutwardDoorsModel" (240 : Nat) (1685024626 : Int64)) ∈ lw_all := lw_g (lw_at lw_m6 184 rfl) rfl
theorem q1534 : (Jvm.Cond.constantLong "OutwardDoorsModel" (245 : Nat) (131294707347319 : Int64)) ∈ lw_all := lw_g (lw_at lw_m6 185 rfl) rfl
theorem q1535 : (Jvm.Cond.constantLong "OutwardDoorsModel" (146 : Nat) (474214787188 : Int64)) ∈ lw_all := lw_g (lw_at lw_m6 186 rfl) rfl
theorem q1536 : (Jvm.Cond.constantLong "OutwardDoorsModel" (132 : Nat) (123581014175598 : Int64)) ∈ lw_all := lw_g (lw_at lw_m6 187 rfl) rfl
theorem q1537 : (Jvm.Cond.constantLong "OutwardDoorsModel" (256 : Nat) (26479 : Int64)) ∈ lw_all := lw_g (lw_at lw_m6 188 rfl) rfl
theorem q1538 : (Jvm.Cond.methodLink "OutwardDoorsModel" (121 : Nat) ({ cls := "OutwardDoorsModel", name := "fails", desc := "(II)Z" } : Jvm.MethodName)) ∈ lw_all := lw_g (lw_at lw_m6 189 rfl) rfl
theorem q1539 : (Jvm.Cond.privateMethod ({ cls := "OutwardDoorsModel", name := "fails", desc := "(II)Z" } : Jvm.MethodName)) ∈ lw_tbl := lw_at lw_m6 190 rfl
theorem q1540 : (Jvm.Cond.instanceMethod ({ cls := "OutwardDoorsModel", name := "fails", desc := "(II)Z" } : Jvm.MethodName)) ∈ lw_all := lw_g (lw_at lw_m6 191 rfl) rfl
theorem q1541 : (Jvm.Cond.code ({ cls := "OutwardDoorsModel", name := "fails", desc := "(II)Z" } : Jvm.MethodName) prog_20_method_7_code (3 : Nat) (Option.some Jvm.ClassFile.FieldType.boolean)) ∈ lw_all := lw_g (lw_at lw_m6 192 rfl) rfl
theorem q1542 : (Jvm.Cond.methodLink "OutwardDoorsModel" (261 : Nat) ({ cls := "OutwardDoorsModel", name := "castleLineHere", desc := "(I)Z" } : Jvm.MethodName)) ∈ lw_all := lw_g (lw_at lw_m6 193 rfl) rfl
theorem q1543 : (Jvm.Cond.privateMethod ({ cls := "OutwardDoorsModel", name := "castleLineHere", desc := "(I)Z" } : Jvm.MethodName)) ∈ lw_tbl := lw_at lw_m6 194 rfl
theorem q1544 : (Jvm.Cond.instanceMethod ({ cls := "OutwardDoorsModel", name := "castleLineHere", desc := "(I)Z" } : Jvm.MethodName)) ∈ lw_all := lw_g (lw_at lw_m6 195 rfl) rfl
theorem q1545 : (Jvm.Cond.code ({ cls := "OutwardDoorsModel", name := "castleLineHere", desc := "(I)Z" } : Jvm.MethodName) prog_20_method_36_code (2 : Nat) (Option.some Jvm.ClassFile.FieldType.boolean)) ∈ lw_all := lw_g (lw_at lw_m6 196 rfl) rfl
theorem q1546 : (Jvm.Cond.methodLink "OutwardDoorsModel" (234 : Nat) ({ cls := "OutwardDoorsModel", name := "isCastleHere", desc := "(I)Z" } : Jvm.MethodName)) ∈ lw_all := lw_g (lw_at lw_m6 197 rfl) rfl
theorem q1547 : (Jvm.Cond.privateMethod ({ cls := "OutwardDoorsModel", name := "isCastleHere", desc := "(I)Z" } : Jvm.MethodName)) ∈ lw_tbl := lw_at lw_m6 198 rfl
theorem q1548 : (Jvm.Cond.instanceMethod ({ cls := "OutwardDoorsModel", name := "isCastleHere", desc := "(I)Z" } : Jvm.MethodName)) ∈ lw_all := lw_g (lw_at lw_m6 199 rfl) rfl
theorem q1549 : (Jvm.Cond.code ({ cls := "OutwardDoorsModel", name := "isCastleHere", desc := "(I)Z" } : Jvm.MethodName) prog_20_method_31_code (2 : Nat) (Option.some Jvm.ClassFile.FieldType.boolean)) ∈ lw_all := lw_g (lw_at lw_m6 200 rfl) rfl
theorem q1550 : (Jvm.Cond.methodLink "OutwardDoorsModel" (115 : Nat) ({ cls := "OutwardDoorsModel", name := "passWord", desc := "()V" } : Jvm.MethodName)) ∈ lw_all := lw_g (lw_at lw_m6 201 rfl) rfl
theorem q1551 : (Jvm.Cond.privateMethod ({ cls := "OutwardDoorsModel", name := "passWord", desc := "()V" } : Jvm.MethodName)) ∈ lw_tbl := lw_at lw_m6 202 rfl
theorem q1552 : (Jvm.Cond.instanceMethod ({ cls := "OutwardDoorsModel", name := "passWord", desc := "()V" } : Jvm.MethodName)) ∈ lw_all := lw_g (lw_at lw_m6 203 rfl) rfl
theorem q1553 : (Jvm.Cond.code ({ cls := "OutwardDoorsModel", name := "passWord", desc := "()V" } : Jvm.MethodName) prog_20_method_12_code (1 : Nat) (Option.none : Option Jvm.ClassFile.FieldType)) ∈ lw_all := lw_g (lw_at lw_m6 204 rfl) rfl
theorem q1554 : (Jvm.Cond.methodLink "OutwardDoorsModel" (228 : Nat) ({ cls := "OutwardDoorsModel", name := "cellHere", desc := "(III)Z" } : Jvm.MethodName)) ∈ lw_all := lw_g (lw_at lw_m6 205 rfl) rfl
theorem q1555 : (Jvm.Cond.privateMethod ({ cls := "OutwardDoorsModel", name := "cellHere", desc := "(III)Z" } : Jvm.MethodName)) ∈ lw_tbl := lw_at lw_m6 206 rfl
theorem q1556 : (Jvm.Cond.instanceMethod ({ cls := "OutwardDoorsModel", name := "cellHere", desc := "(III)Z" } : Jvm.MethodName)) ∈ lw_all := lw_g (lw_at lw_m6 207 rfl) rfl
theorem q1557 : (Jvm.Cond.code ({ cls := "OutwardDoorsModel", name := "cellHere", desc := "(III)Z" } : Jvm.MethodName) prog_20_method_30_code (4 : Nat) (Option.some Jvm.ClassFile.FieldType.boolean)) ∈ lw_all := lw_g (lw_at lw_m6 208 rfl) rfl
theorem q1558 : (Jvm.Cond.methodLink "OutwardDoorsModel" (177 : Nat) ({ cls := "OutwardDoorsModel", name := "numberHere", desc := "(II)Z" } : Jvm.MethodName)) ∈ lw_all := lw_g (lw_at lw_m6 209 rfl) rfl
theorem q1559 : (Jvm.Cond.privateMethod ({ cls := "OutwardDoorsModel", name := "numberHere", desc := "(II)Z" } : Jvm.MethodName)) ∈ lw_tbl := lw_at lw_m6 210 rfl
theorem q1560 : (Jvm.Cond.instanceMethod ({ cls := "OutwardDoorsModel", name := "numberHere", desc := "(II)Z" } : Jvm.MethodName)) ∈ lw_all := lw_g (lw_at lw_m6 211 rfl) rfl
theorem q1561 : (Jvm.Cond.code ({ cls := "OutwardDoorsModel", name := "numberHere", desc := "(II)Z" } : Jvm.MethodName) prog_20_method_14_code (5 : Nat) (Option.some Jvm.ClassFile.FieldType.boolean)) ∈ lw_all := lw_g (lw_at lw_m6 212 rfl) rfl
theorem q1562 : (Jvm.Cond.methodLink "OutwardDoorsModel" (118 : Nat) ({ cls := "OutwardDoorsModel", name := "isDigit", desc := "(I)Z" } : Jvm.MethodName)) ∈ lw_all := lw_g (lw_at lw_m6 213 rfl) rfl
theorem q1563 : (Jvm.Cond.privateMethod ({ cls := "OutwardDoorsModel", name := "isDigit", desc := "(I)Z" } : Jvm.MethodName)) ∈ lw_tbl := lw_at lw_m6 214 rfl
theorem q1564 : (Jvm.Cond.instanceMethod ({ cls := "OutwardDoorsModel", name := "isDigit", desc := "(I)Z" } : Jvm.MethodName)) ∈ lw_all := lw_g (lw_at lw_m6 215 rfl) rfl
theorem q1565 : (Jvm.Cond.code ({ cls := "OutwardDoorsModel", name := "isDigit", desc := "(I)Z" } : Jvm.MethodName) prog_20_method_9_code (2 : Nat) (Option.some Jvm.ClassFile.FieldType.boolean)) ∈ lw_all := lw_g (lw_at lw_m6 216 rfl) rfl
theorem q1566 : (Jvm.Cond.methodLink "OutwardDoorsModel" (128 : Nat) ({ cls := "OutwardDoorsModel", name := "in", desc := "(JJJ)Z" } : Jvm.MethodName)) ∈ lw_all := lw_g (lw_at lw_m6 217 rfl) rfl
theorem q1567 : (Jvm.Cond.static ({ cls := "OutwardDoorsModel", name := "in", desc := "(JJJ)Z" } : Jvm.MethodName)) ∈ lw_all := lw_g (lw_at lw_m6 218 rfl) rfl
theorem q1568 : (Jvm.Cond.code ({ cls := "OutwardDoorsModel", name := "in", desc := "(JJJ)Z" } : Jvm.MethodName) prog_20_method_2_code (6 : Nat) (Option.some Jvm.ClassFile.FieldType.boolean)) ∈ lw_all := lw_g (lw_at lw_m6 219 rfl) rfl
theorem q1569 : (Jvm.Cond.methodLink "OutwardDoorsModel" (237 : Nat) ({ cls := "OutwardDoorsModel", name := "isFarHere", desc := "()Z" } : Jvm.MethodName)) ∈ lw_all := lw_g (lw_at lw_m6 220 rfl) rfl
theorem q1570 : (Jvm.Cond.privateMethod ({ cls := "OutwardDoorsModel", name := "isFarHere", desc := "()Z" } : Jvm.MethodName)) ∈ lw_tbl := lw_at lw_m6 221 rfl
theorem q1571 : (Jvm.Cond.instanceMethod ({ cls := "OutwardDoorsModel", name := "isFarHere", desc := "()Z" } : Jvm.MethodName)) ∈ lw_all := lw_g (lw_at lw_m6 222 rfl) rfl
theorem q1572 : (Jvm.Cond.code ({ cls := "OutwardDoorsModel", name := "isFarHere", desc := "()Z" } : Jvm.MethodName) prog_20_method_32_code (1 : Nat) (Option.some Jvm.ClassFile.FieldType.boolean)) ∈ lw_all := lw_g (lw_at lw_m6 223 rfl) rfl
theorem q1573 : (Jvm.Cond.methodLink "OutwardDoorsModel" (242 : Nat) ({ cls := "OutwardDoorsModel", name := "isDoorHere", desc := "(II)Z" } : Jvm.MethodName)) ∈ lw_all := lw_g (lw_at lw_m6 224 rfl) rfl
theorem q1574 : (Jvm.Cond.privateMethod ({ cls := "OutwardDoorsModel", name := "isDoorHere", desc := "(II)Z" } : Jvm.MethodName)) ∈ lw_tbl := lw_at lw_m6 225 rfl
theorem q1575 : (Jvm.Cond.instanceMethod ({ cls := "OutwardDoorsModel", name := "isDoorHere", desc := "(II)Z" } : Jvm.MethodName)) ∈ lw_all := lw_g (lw_at lw_m6 226 rfl) rfl
theorem q1576 : (Jvm.Cond.code ({ cls := "OutwardDoorsModel", name := "isDoorHere", desc := "(II)Z" } : Jvm.MethodName) prog_20_method_33_code (9 : Nat) (Option.some Jvm.ClassFile.FieldType.boolean)) ∈ lw_all := lw_g (lw_at lw_m6 227 rfl) rfl
theorem q1577 : (Jvm.Cond.methodLink "OutwardDoorsModel" (247 : Nat) ({ cls := "OutwardDoorsModel", name := "isNightHere", desc := "(I)Z" } : Jvm.MethodName)) ∈ lw_all := lw_g (lw_at lw_m6 228 rfl) rfl
theorem q1578 : (Jvm.Cond.privateMethod ({ cls := "OutwardDoorsModel", name := "isNightHere", desc := "(I)Z" } : Jvm.MethodName)) ∈ lw_tbl := lw_at lw_m6 229 rfl
theorem q1579 : (Jvm.Cond.instanceMethod ({ cls := "OutwardDoorsModel", name := "isNightHere", desc := "(I)Z" } : Jvm.MethodName)) ∈ lw_all := lw_g (lw_at lw_m6 230 rfl) rfl
theorem q1580 : (Jvm.Cond.code ({ cls := "OutwardDoorsModel", name := "isNightHere", desc := "(I)Z" } : Jvm.MethodName) prog_20_method_34_code (2 : Nat) (Option.some Jvm.ClassFile.FieldType.boolean)) ∈ lw_all := lw_g (lw_at lw_m6 231 rfl) rfl
theorem q1581 : (Jvm.Cond.methodLink "OutwardDoorsModel" (250 : Nat) ({ cls := "OutwardDoorsModel", name := "isPersonHere", desc := "(I)Z" } : Jvm.MethodName)) ∈ lw_all := lw_g (lw_at lw_m6 232 rfl) rfl
theorem q1582 : (Jvm.Cond.privateMethod ({ cls := "OutwardDoorsModel", name := "isPersonHere", desc := "(I)Z" } : Jvm.MethodName)) ∈ lw_tbl := lw_at lw_m6 233 rfl
theorem q1583 : (Jvm.Cond.instanceMethod ({ cls := "OutwardDoorsModel", name := "isPersonHere", desc := "(I)Z" } : Jvm.MethodName)) ∈ lw_all := lw_g (lw_at lw_m6 234 rfl) rfl
theorem q1584 : (Jvm.Cond.code ({ cls := "OutwardDoorsModel", name := "isPersonHere", desc := "(I)Z" } : Jvm.MethodName) prog_20_method_35_code (3 : Nat) (Option.some Jvm.ClassFile.FieldType.boolean)) ∈ lw_all := lw_g (lw_at lw_m6 235 rfl) rfl
theorem q1585 : (Jvm.Cond.methodLink "OutwardDoorsModel" (264 : Nat) ({ cls := "OutwardDoorsModel", name := "isGoHere", desc := "()Z" } : Jvm.MethodName)) ∈ lw_all := lw_g (lw_at lw_m6 236 rfl) rfl
theorem q1586 : (Jvm.Cond.privateMethod ({ cls := "OutwardDoorsModel", name := "isGoHere", desc := "()Z" } : Jvm.MethodName)) ∈ lw_tbl := lw_at lw_m6 237 rfl
theorem q1587 : (Jvm.Cond.instanceMethod ({ cls := "OutwardDoorsModel", name := "isGoHere", desc := "()Z" } : Jvm.MethodName)) ∈ lw_all := lw_g (lw_at lw_m6 238 rfl) rfl
theorem q1588 : (Jvm.Cond.code ({ cls := "OutwardDoorsModel", name := "isGoHere", desc := "()Z" } : Jvm.MethodName) prog_20_method_29_code (2 : Nat) (Option.some Jvm.ClassFile.FieldType.boolean)) ∈ lw_all := lw_g (lw_at lw_m6 239 rfl) rfl
theorem q1589 : (Jvm.Cond.methodLink "OutwardDoorsModel" (193 : Nat) ({ cls := "OutwardDoorsModel", name := "sum", desc := "()Z" } : Jvm.MethodName)) ∈ lw_all := lw_g (lw_at lw_m7 0 rfl) rfl
theorem q1590 : (Jvm.Cond.privateMethod ({ cls := "OutwardDoorsModel", name := "sum", desc := "()Z" } : Jvm.MethodName)) ∈ lw_tbl := lw_at lw_m7 1 rfl
theorem q1591 : (Jvm.Cond.instanceMethod ({ cls := "OutwardDoorsModel", name := "sum", desc := "()Z" } : Jvm.MethodName)) ∈ lw_all := lw_g (lw_at lw_m7 2 rfl) rfl
theorem q1592 : (Jvm.Cond.code ({ cls := "OutwardDoorsModel", name := "sum", desc := "()Z" } : Jvm.MethodName) prog_20_method_23_code (2 : Nat) (Option.some Jvm.ClassFile.FieldType.boolean)) ∈ lw_all := lw_g (lw_at lw_m7 3 rfl) rfl
theorem q1593 : (Jvm.Cond.methodLink "OutwardDoorsModel" (190 : Nat) ({ cls := "OutwardDoorsModel", name := "term", desc := "()Z" } : Jvm.MethodName)) ∈ lw_all := lw_g (lw_at lw_m7 4 rfl) rfl
theorem q1594 : (Jvm.Cond.privateMethod ({ cls := "OutwardDoorsModel", name := "term", desc := "()Z" } : Jvm.MethodName)) ∈ lw_tbl := lw_at lw_m7 5 rfl
theorem q1595 : (Jvm.Cond.instanceMethod ({ cls := "OutwardDoorsModel", name := "term", desc := "()Z" } : Jvm.MethodName)) ∈ lw_all := lw_g (lw_at lw_m7 6 rfl) rfl
theorem q1596 : (Jvm.Cond.code ({ cls := "OutwardDoorsModel", name := "term", desc := "()Z" } : Jvm.MethodName) prog_20_method_22_code (2 : Nat) (Option.some Jvm.ClassFile.FieldType.boolean)) ∈ lw_all := lw_g (lw_at lw_m7 7 rfl) rfl
theorem q1597 : (Jvm.Cond.methodLink "OutwardDoorsModel" (186 : Nat) ({ cls := "OutwardDoorsModel", name := "value", desc := "()Z" } : Jvm.MethodName)) ∈ lw_all := lw_g (lw_at lw_m7 8 rfl) rfl
theorem q1598 : (Jvm.Cond.privateMethod ({ cls := "OutwardDoorsModel", name := "value", desc := "()Z" } : Jvm.MethodName)) ∈ lw_tbl := lw_at lw_m7 9 rfl
theorem q1599 : (Jvm.Cond.instanceMethod ({ cls := "OutwardDoorsModel", name := "value", desc := "()Z" } : Jvm.MethodName)) ∈ lw_all := lw_g (lw_at lw_m7 10 rfl) rfl
theorem q1600 : (Jvm.Cond.code ({ cls := "OutwardDoorsModel", name := "value", desc := "()Z" } : Jvm.MethodName) prog_20_method_21_code (3 : Nat) (Option.some Jvm.ClassFile.FieldType.boolean)) ∈ lw_all := lw_g (lw_at lw_m7 11 rfl) rfl
theorem q1601 : (Jvm.Cond.constant "OutwardDoorsModel" (176 : Nat) (99999 : Int32)) ∈ lw_all := lw_g (lw_at lw_m7 12 rfl) rfl
theorem q1602 : (Jvm.Cond.methodLink "OutwardDoorsModel" (180 : Nat) ({ cls := "OutwardDoorsModel", name := "makes", desc := "(I)Z" } : Jvm.MethodName)) ∈ lw_all := lw_g (lw_at lw_m7 13 rfl) rfl
theorem q1603 : (Jvm.Cond.privateMethod ({ cls := "OutwardDoorsModel", name := "makes", desc := "(I)Z" } : Jvm.MethodName)) ∈ lw_tbl := lw_at lw_m7 14 rfl
theorem q1604 : (Jvm.Cond.instanceMethod ({ cls := "OutwardDoorsModel", name := "makes", desc := "(I)Z" } : Jvm.MethodName)) ∈ lw_all := lw_g (lw_at lw_m7 15 rfl) rfl
theorem q1605 : (Jvm.Cond.code ({ cls := "OutwardDoorsModel", name := "makes", desc := "(I)Z" } : Jvm.MethodName) prog_20_method_17_code (2 : Nat) (Option.some Jvm.ClassFile.FieldType.boolean)) ∈ lw_all := lw_g (lw_at lw_m7 16 rfl) rfl
theorem q1606 : (Jvm.Cond.methodLink "OutwardDoorsModel" (172 : Nat) ({ cls := "OutwardDoorsModel", name := "puts", desc := "(II)V" } : Jvm.MethodName)) ∈ lw_all := lw_g (lw_at lw_m7 17 rfl) rfl
theorem q1607 : (Jvm.Cond.privateMethod ({ cls := "OutwardDoorsModel", name := "puts", desc := "(II)V" } : Jvm.MethodName)) ∈ lw_tbl := lw_at lw_m7 18 rfl
theorem q1608 : (Jvm.Cond.instanceMethod ({ cls := "OutwardDoorsModel", name := "puts", desc := "(II)V" } : Jvm.MethodName)) ∈ lw_all := lw_g (lw_at lw_m7 19 rfl) rfl
theorem q1609 : (Jvm.Cond.code ({ cls := "OutwardDoorsModel", name := "puts", desc := "(II)V" } : Jvm.MethodName) prog_20_method_16_code (3 : Nat) (Option.none : Option Jvm.ClassFile.FieldType)) ∈ lw_all := lw_g (lw_at lw_m7 20 rfl) rfl
theorem q1610 : (Jvm.Cond.methodLink "OutwardDoorsModel" (183 : Nat) ({ cls := "OutwardDoorsModel", name := "wordHere", desc := "()I" } : Jvm.MethodName)) ∈ lw_all := lw_g (lw_at lw_m7 21 rfl) rfl
theorem q1611 : (Jvm.Cond.privateMethod ({ cls := "OutwardDoorsModel", name := "wordHere", desc := "()I" } : Jvm.MethodName)) ∈ lw_tbl := lw_at lw_m7 22 rfl
theorem q1612 : (Jvm.Cond.instanceMethod ({ cls := "OutwardDoorsModel", name := "wordHere", desc := "()I" } : Jvm.MethodName)) ∈ lw_all := lw_g (lw_at lw_m7 23 rfl) rfl
theorem q1613 : (Jvm.Cond.code ({ cls := "OutwardDoorsModel", name := "wordHere", desc := "()I" } : Jvm.MethodName) prog_20_method_15_code (1 : Nat) (Option.some Jvm.ClassFile.FieldType.int)) ∈ lw_all := lw_g (lw_at lw_m7 24 rfl) rfl
theorem q1614 : (Jvm.Cond.constantLong "OutwardDoorsModel" (134 : Nat) (1919905645 : Int64)) ∈ lw_all := lw_g (lw_at lw_m7 25 rfl) rfl
theorem q1615 : (Jvm.Cond.constantLong "OutwardDoorsModel" (138 : Nat) (1735352684 : Int64)) ∈ lw_all := lw_g (lw_at lw_m7 26 rfl) rfl
theorem q1616 : (Jvm.Cond.constantLong "OutwardDoorsModel" (140 : Nat) (1818584692 : Int64)) ∈ lw_all := lw_g (lw_at lw_m7 27 rfl) rfl
theorem q1617 : (Jvm.Cond.constantLong "OutwardDoorsModel" (142 : Nat) (7364985 : Int64)) ∈ lw_all := lw_g (lw_at lw_m7 28 rfl) rfl
theorem q1618 : (Jvm.Cond.constantLong "OutwardDoorsModel" (144 : Nat) (120325344161396 : Int64)) ∈ lw_all := lw_g (lw_at lw_m7 29 rfl) rfl
theorem q1619 : (Jvm.Cond.constantLong "OutwardDoorsModel" (148 : Nat) (1751478885 : Int64)) ∈ lw_all := lw_g (lw_at lw_m7 30 rfl) rfl
theorem q1620 : (Jvm.Cond.constantLong "OutwardDoorsModel" (150 : Nat) (26990 : Int64)) ∈ lw_all := lw_g (lw_at lw_m7 31 rfl) rfl
theorem q1621 : (Jvm.Cond.constantLong "OutwardDoorsModel" (152 : Nat) (7304564 : Int64)) ∈ lw_all := lw_g (lw_at lw_m7 32 rfl) rfl
theorem q1622 : (Jvm.Cond.constantLong "OutwardDoorsModel" (154 : Nat) (418548245860 : Int64)) ∈ lw_all := lw_g (lw_at lw_m7 33 rfl) rfl
theorem q1623 : (Jvm.Cond.constantLong "OutwardDoorsModel" (220 : Nat) (26982 : Int64)) ∈ lw_all := lw_g (lw_at lw_m7 34 rfl) rfl
theorem q1624 : (Jvm.Cond.methodLink "OutwardDoorsModel" (222 : Nat) ({ cls := "OutwardDoorsModel", name := "takesWord", desc := "(J)Z" } : Jvm.MethodName)) ∈ lw_all := lw_g (lw_at lw_m7 35 rfl) rfl
theorem q1625 : (Jvm.Cond.privateMethod ({ cls := "OutwardDoorsModel", name := "takesWord", desc := "(J)Z" } : Jvm.MethodName)) ∈ lw_tbl := lw_at lw_m7 36 rfl
theorem q1626 : (Jvm.Cond.instanceMethod ({ cls := "OutwardDoorsModel", name := "takesWord", desc := "(J)Z" } : Jvm.MethodName)) ∈ lw_all := lw_g (lw_at lw_m7 37 rfl) rfl
theorem q1627 : (Jvm.Cond.code ({ cls := "OutwardDoorsModel", name := "takesWord", desc := "(J)Z" } : Jvm.MethodName) prog_20_method_13_code (3 : Nat) (Option.some Jvm.ClassFile.FieldType.boolean)) ∈ lw_all := lw_g (lw_at lw_m7 38 rfl) rfl
theorem q1628 : (Jvm.Cond.methodLink "OutwardDoorsModel" (225 : Nat) ({ cls := "OutwardDoorsModel", name := "tested", desc := "()Z" } : Jvm.MethodName)) ∈ lw_all := lw_g (lw_at lw_m7 39 rfl) rfl
theorem q1629 : (Jvm.Cond.privateMethod ({ cls := "OutwardDoorsModel", name := "tested", desc := "()Z" } : Jvm.MethodName)) ∈ lw_tbl := lw_at lw_m7 40 rfl
theorem q1630 : (Jvm.Cond.instanceMethod ({ cls := "OutwardDoorsModel", name := "tested", desc := "()Z" } : Jvm.MethodName)) ∈ lw_all := lw_g (lw_at lw_m7 41 rfl) rfl
theorem q1631 : (Jvm.Cond.code ({ cls := "OutwardDoorsModel", name := "tested", desc := "()Z" } : Jvm.MethodName) prog_20_method_28_code (3 : Nat) (Option.some Jvm.ClassFile.FieldType.boolean)) ∈ lw_all := lw_g (lw_at lw_m7 42 rfl) rfl
theorem q1632 : (Jvm.Cond.methodLink "OutwardDoorsModel" (210 : Nat) ({ cls := "OutwardDoorsModel", name := "fact", desc := "()Z" } : Jvm.MethodName)) ∈ lw_all := lw_g (lw_at lw_m7 43 rfl) rfl
theorem q1633 : (Jvm.Cond.privateMethod ({ cls := "OutwardDoorsModel", name := "fact", desc := "()Z" } : Jvm.MethodName)) ∈ lw_tbl := lw_at lw_m7 44 rfl
theorem q1634 : (Jvm.Cond.instanceMethod ({ cls := "OutwardDoorsModel", name := "fact", desc := "()Z" } : Jvm.MethodName)) ∈ lw_all := lw_g (lw_at lw_m7 45 rfl) rfl
theorem q1635 : (Jvm.Cond.code ({ cls := "OutwardDoorsModel", name := "fact", desc := "()Z" } : Jvm.MethodName) prog_20_method_25_code (3 : Nat) (Option.some Jvm.ClassFile.FieldType.boolean)) ∈ lw_all := lw_g (lw_at lw_m7 46 rfl) rfl
theorem q1636 : (Jvm.Cond.constantLong "OutwardDoorsModel" (196 : Nat) (7237492 : Int64)) ∈ lw_all := lw_g (lw_at lw_m7 47 rfl) rfl
theorem q1637 : (Jvm.Cond.methodLink "OutwardDoorsModel" (198 : Nat) ({ cls := "OutwardDoorsModel", name := "opens", desc := "(I)Z" } : Jvm.MethodName)) ∈ lw_all := lw_g (lw_at lw_m7 48 rfl) rfl
theorem q1638 : (Jvm.Cond.privateMethod ({ cls := "OutwardDoorsModel", name := "opens", desc := "(I)Z" } : Jvm.MethodName)) ∈ lw_tbl := lw_at lw_m7 49 rfl
theorem q1639 : (Jvm.Cond.instanceMethod ({ cls := "OutwardDoorsModel", name := "opens", desc := "(I)Z" } : Jvm.MethodName)) ∈ lw_all := lw_g (lw_at lw_m7 50 rfl) rfl
theorem q1640 : (Jvm.Cond.code ({ cls := "OutwardDoorsModel", name := "opens", desc := "(I)Z" } : Jvm.MethodName) prog_20_method_18_code (2 : Nat) (Option.some Jvm.ClassFile.FieldType.boolean)) ∈ lw_all := lw_g (lw_at lw_m7 51 rfl) rfl
theorem q1641 : (Jvm.Cond.methodLink "OutwardDoorsModel" (201 : Nat) ({ cls := "OutwardDoorsModel", name := "compare", desc := "()Z" } : Jvm.MethodName)) ∈ lw_all := lw_g (lw_at lw_m7 52 rfl) rfl
theorem q1642 : (Jvm.Cond.privateMethod ({ cls := "OutwardDoorsModel", name := "compare", desc := "()Z" } : Jvm.MethodName)) ∈ lw_tbl := lw_at lw_m7 53 rfl
theorem q1643 : (Jvm.Cond.instanceMethod ({ cls := "OutwardDoorsModel", name := "compare", desc := "()Z" } : Jvm.MethodName)) ∈ lw_all := lw_g (lw_at lw_m7 54 rfl) rfl
theorem q1644 : (Jvm.Cond.code ({ cls := "OutwardDoorsModel", name := "compare", desc := "()Z" } : Jvm.MethodName) prog_20_method_24_code (5 : Nat) (Option.some Jvm.ClassFile.FieldType.boolean)) ∈ lw_all := lw_g (lw_at lw_m7 55 rfl) rfl
theorem q1645 : (Jvm.Cond.methodLink "OutwardDoorsModel" (213 : Nat) ({ cls := "OutwardDoorsModel", name := "closes", desc := "()V" } : Jvm.MethodName)) ∈ lw_all := lw_g (lw_at lw_m7 56 rfl) rfl
theorem q1646 : (Jvm.Cond.privateMethod ({ cls := "OutwardDoorsModel", name := "closes", desc := "()V" } : Jvm.MethodName)) ∈ lw_tbl := lw_at lw_m7 57 rfl
theorem q1647 : (Jvm.Cond.instanceMethod ({ cls := "OutwardDoorsModel", name := "closes", desc := "()V" } : Jvm.MethodName)) ∈ lw_all := lw_g (lw_at lw_m7 58 rfl) rfl
theorem q1648 : (Jvm.Cond.code ({ cls := "OutwardDoorsModel", name := "closes", desc := "()V" } : Jvm.MethodName) prog_20_method_27_code (1 : Nat) (Option.none : Option Jvm.ClassFile.FieldType)) ∈ lw_all := lw_g (lw_at lw_m7 59 rfl) rfl
theorem q1649 : (Jvm.Cond.methodLink "OutwardDoorsModel" (204 : Nat) ({ cls := "OutwardDoorsModel", name := "settles", desc := "(I)V" } : Jvm.MethodName)) ∈ lw_all := lw_g (lw_at lw_m7 60 rfl) rfl
theorem q1650 : (Jvm.Cond.privateMethod ({ cls := "OutwardDoorsModel", name := "settles", desc := "(I)V" } : Jvm.MethodName)) ∈ lw_tbl := lw_at lw_m7 61 rfl
theorem q1651 : (Jvm.Cond.instanceMethod ({ cls := "OutwardDoorsModel", name := "settles", desc := "(I)V" } : Jvm.MethodName)) ∈ lw_all := lw_g (lw_at lw_m7 62 rfl) rfl
theorem q1652 : (Jvm.Cond.code ({ cls := "OutwardDoorsModel", name := "settles", desc := "(I)V" } : Jvm.MethodName) prog_20_method_20_code (2 : Nat) (Option.none : Option Jvm.ClassFile.FieldType)) ∈ lw_all := lw_g (lw_at lw_m7 63 rfl) rfl
theorem q1653 : (Jvm.Cond.methodLink "OutwardDoorsModel" (168 : Nat) ({ cls := "OutwardDoorsModel", name := "strength", desc := "(I)I" } : Jvm.MethodName)) ∈ lw_all := lw_g (lw_at lw_m7 64 rfl) rfl
theorem q1654 : (Jvm.Cond.static ({ cls := "OutwardDoorsModel", name := "strength", desc := "(I)I" } : Jvm.MethodName)) ∈ lw_all := lw_g (lw_at lw_m7 65 rfl) rfl
theorem q1655 : (Jvm.Cond.code ({ cls := "OutwardDoorsModel", name := "strength", desc := "(I)I" } : Jvm.MethodName) prog_20_method_19_code (1 : Nat) (Option.some Jvm.ClassFile.FieldType.int)) ∈ lw_all := lw_g (lw_at lw_m7 66 rfl) rfl
theorem q1656 : (Jvm.Cond.methodLink "OutwardDoorsModel" (207 : Nat) ({ cls := "OutwardDoorsModel", name := "isInside", desc := "()Z" } : Jvm.MethodName)) ∈ lw_all := lw_g (lw_at lw_m7 67 rfl) rfl
theorem q1657 : (Jvm.Cond.privateMethod ({ cls := "OutwardDoorsModel", name := "isInside", desc := "()Z" } : Jvm.MethodName)) ∈ lw_tbl := lw_at lw_m7 68 rfl
theorem q1658 : (Jvm.Cond.instanceMethod ({ cls := "OutwardDoorsModel", name := "isInside", desc := "()Z" } : Jvm.MethodName)) ∈ lw_all := lw_g (lw_at lw_m7 69 rfl) rfl
theorem q1659 : (Jvm.Cond.code ({ cls := "OutwardDoorsModel", name := "isInside", desc := "()Z" } : Jvm.MethodName) prog_20_method_26_code (2 : Nat) (Option.some Jvm.ClassFile.FieldType.boolean)) ∈ lw_all := lw_g (lw_at lw_m7 70 rfl) rfl
theorem q1660 : (Jvm.Cond.constantLong "OutwardDoorsModel" (216 : Nat) (6385252 : Int64)) ∈ lw_all := lw_g (lw_at lw_m7 71 rfl) rfl
theorem q1661 : (Jvm.Cond.constantLong "OutwardDoorsModel" (218 : Nat) (28530 : Int64)) ∈ lw_all := lw_g (lw_at lw_m7 72 rfl) rfl
theorem q1663 : (Jvm.Cond.instanceMethod ({ cls := "OutwardDoorsModel", name := "castle", desc := "()I" } : Jvm.MethodName)) ∈ lw_all := lw_g (lw_at lw_m7 74 rfl) rfl
theorem q1664 : (Jvm.Cond.selects "OutwardDoorsModel" ({ cls := "OutwardDoorsModel", name := "castle", desc := "()I" } : Jvm.MethodName) ({ cls := "OutwardDoorsModel", name := "castle", desc := "()I" } : Jvm.MethodName)) ∈ lw_all := lw_g (lw_at lw_m7 75 rfl) rfl
theorem q1665 : (Jvm.Cond.code ({ cls := "OutwardDoorsModel", name := "castle", desc := "()I" } : Jvm.MethodName) prog_20_method_42_code (2 : Nat) (Option.some Jvm.ClassFile.FieldType.int)) ∈ lw_all := lw_g (lw_at lw_m7 76 rfl) rfl
theorem q1666 : (Jvm.Cond.methodLink "OutwardDoorsModel" (276 : Nat) ({ cls := "OutwardDoorsModel", name := "turnsDoors", desc := "()V" } : Jvm.MethodName)) ∈ lw_all := lw_g (lw_at lw_m7 77 rfl) rfl
theorem q1667 : (Jvm.Cond.privateMethod ({ cls := "OutwardDoorsModel", name := "turnsDoors", desc := "()V" } : Jvm.MethodName)) ∈ lw_tbl := lw_at lw_m7 78 rfl
theorem q1668 : (Jvm.Cond.instanceMethod ({ cls := "OutwardDoorsModel", name := "turnsDoors", desc := "()V" } : Jvm.MethodName)) ∈ lw_all := lw_g (lw_at lw_m7 79 rfl) rfl
theorem q1669 : (Jvm.Cond.code ({ cls := "OutwardDoorsModel", name := "turnsDoors", desc := "()V" } : Jvm.MethodName) prog_20_method_41_code (5 : Nat) (Option.none : Option Jvm.ClassFile.FieldType)) ∈ lw_all := lw_g (lw_at lw_m7 80 rfl) rfl
theorem q1670 : (Jvm.Cond.methodLink "OutwardDoorsModel" (279 : Nat) ({ cls := "OutwardDoorsModel", name := "personOf", desc := "(II)I" } : Jvm.MethodName)) ∈ lw_all := lw_g (lw_at lw_m7 81 rfl) rfl
theorem q1671 : (Jvm.Cond.privateMethod ({ cls := "OutwardDoorsModel", name := "personOf", desc := "(II)I" } : Jvm.MethodName)) ∈ lw_tbl := lw_at lw_m7 82 rfl
theorem q1672 : (Jvm.Cond.instanceMethod ({ cls := "OutwardDoorsModel", name := "personOf", desc := "(II)I" } : Jvm.MethodName)) ∈ lw_all := lw_g (lw_at lw_m7 83 rfl) rfl
theorem q1673 : (Jvm.Cond.code ({ cls := "OutwardDoorsModel", name := "personOf", desc := "(II)I" } : Jvm.MethodName) prog_20_method_52_code (3 : Nat) (Option.some Jvm.ClassFile.FieldType.int)) ∈ lw_all := lw_g (lw_at lw_m7 84 rfl) rfl
theorem q1675 : (Jvm.Cond.instanceMethod ({ cls := "OutwardDoorsModel", name := "force", desc := "(I)I" } : Jvm.MethodName)) ∈ lw_all := lw_g (lw_at lw_m7 86 rfl) rfl
theorem q1676 : (Jvm.Cond.selects "OutwardDoorsModel" ({ cls := "OutwardDoorsModel", name := "force", desc := "(I)I" } : Jvm.MethodName) ({ cls := "OutwardDoorsModel", name := "force", desc := "(I)I" } : Jvm.MethodName)) ∈ lw_all := lw_g (lw_at lw_m7 87 rfl) rfl
theorem q1677 : (Jvm.Cond.code ({ cls := "OutwardDoorsModel", name := "force", desc := "(I)I" } : Jvm.MethodName) prog_20_method_64_code (3 : Nat) (Option.some Jvm.ClassFile.FieldType.int)) ∈ lw_all := lw_g (lw_at lw_m7 88 rfl) rfl
theorem q1678 : (Jvm.Cond.methodLink "OutwardDoorsModel" (325 : Nat) ({ cls := "OutwardDoorsModel", name := "isRule", desc := "(I)Z" } : Jvm.MethodName)) ∈ lw_all := lw_g (lw_at lw_m7 89 rfl) rfl
theorem q1679 : (Jvm.Cond.privateMethod ({ cls := "OutwardDoorsModel", name := "isRule", desc := "(I)Z" } : Jvm.MethodName)) ∈ lw_tbl := lw_at lw_m7 90 rfl
theorem q1680 : (Jvm.Cond.instanceMethod ({ cls := "OutwardDoorsModel", name := "isRule", desc := "(I)Z" } : Jvm.MethodName)) ∈ lw_all := lw_g (lw_at lw_m7 91 rfl) rfl
theorem q1681 : (Jvm.Cond.code ({ cls := "OutwardDoorsModel", name := "isRule", desc := "(I)Z" } : Jvm.MethodName) prog_20_method_43_code (2 : Nat) (Option.some Jvm.ClassFile.FieldType.boolean)) ∈ lw_all := lw_g (lw_at lw_m7 92 rfl) rfl
theorem q1683 : (Jvm.Cond.instanceMethod ({ cls := "OutwardDoorsModel", name := "person", desc := "(II)I" } : Jvm.MethodName)) ∈ lw_all := lw_g (lw_at lw_m7 94 rfl) rfl
theorem q1684 : (Jvm.Cond.selects "OutwardDoorsModel" ({ cls := "OutwardDoorsModel", name := "person", desc := "(II)I" } : Jvm.MethodName) ({ cls := "OutwardDoorsModel", name := "person", desc := "(II)I" } : Jvm.MethodName)) ∈ lw_all := lw_g (lw_at lw_m7 95 rfl) rfl
theorem q1685 : (Jvm.Cond.code ({ cls := "OutwardDoorsModel", name := "person", desc := "(II)I" } : Jvm.MethodName) prog_20_method_65_code (3 : Nat) (Option.some Jvm.ClassFile.FieldType.int)) ∈ lw_all := lw_g (lw_at lw_m7 96 rfl) rfl
theorem q1686 : (Jvm.Cond.methodLink "OutwardDoorsModel" (328 : Nat) ({ cls := "OutwardDoorsModel", name := "isPerson", desc := "(I)Z" } : Jvm.MethodName)) ∈ lw_all := lw_g (lw_at lw_m7 97 rfl) rfl
theorem q1687 : (Jvm.Cond.privateMethod ({ cls := "OutwardDoorsModel", name := "isPerson", desc := "(I)Z" } : Jvm.MethodName)) ∈ lw_tbl := lw_at lw_m7 98 rfl
theorem q1688 : (Jvm.Cond.instanceMethod ({ cls := "OutwardDoorsModel", name := "isPerson", desc := "(I)Z" } : Jvm.MethodName)) ∈ lw_all := lw_g (lw_at lw_m7 99 rfl) rfl
theorem q1689 : (Jvm.Cond.code ({ cls := "OutwardDoorsModel", name := "isPerson", desc := "(I)Z" } : Jvm.MethodName) prog_20_method_49_code (2 : Nat) (Option.some Jvm.ClassFile.FieldType.boolean)) ∈ lw_all := lw_g (lw_at lw_m7 100 rfl) rfl
theorem q1690 : (Jvm.Cond.constantLong "OutwardDoorsModel" (331 : Nat) (7 : Int64)) ∈ lw_all := lw_g (lw_at lw_m7 101 rfl) rfl
theorem q1691 : (Jvm.Cond.methodLink "OutwardDoorsModel" (319 : Nat) ({ cls := "OutwardDoorsModel", name := "leftOf", desc := "(I)I" } : Jvm.MethodName)) ∈ lw_all := lw_g (lw_at lw_m7 102 rfl) rfl
theorem q1692 : (Jvm.Cond.privateMethod ({ cls := "OutwardDoorsModel", name := "leftOf", desc := "(I)I" } : Jvm.MethodName)) ∈ lw_tbl := lw_at lw_m7 103 rfl
theorem q1693 : (Jvm.Cond.instanceMethod ({ cls := "OutwardDoorsModel", name := "leftOf", desc := "(I)I" } : Jvm.MethodName)) ∈ lw_all := lw_g (lw_at lw_m7 104 rfl) rfl
theorem q1694 : (Jvm.Cond.code ({ cls := "OutwardDoorsModel", name := "leftOf", desc := "(I)I" } : Jvm.MethodName) prog_20_method_59_code (2 : Nat) (Option.some Jvm.ClassFile.FieldType.int)) ∈ lw_all := lw_g (lw_at lw_m7 105 rfl) rfl
theorem q1695 : (Jvm.Cond.methodLink "OutwardDoorsModel" (316 : Nat) ({ cls := "OutwardDoorsModel", name := "leftFrom", desc := "(II)I" } : Jvm.MethodName)) ∈ lw_all := lw_g (lw_at lw_m7 106 rfl) rfl
theorem q1696 : (Jvm.Cond.privateMethod ({ cls := "OutwardDoorsModel", name := "leftFrom", desc := "(II)I" } : Jvm.MethodName)) ∈ lw_tbl := lw_at lw_m7 107 rfl
theorem q1697 : (Jvm.Cond.instanceMethod ({ cls := "OutwardDoorsModel", name := "leftFrom", desc := "(II)I" } : Jvm.MethodName)) ∈ lw_all := lw_g (lw_at lw_m7 108 rfl) rfl
theorem q1698 : (Jvm.Cond.code ({ cls := "OutwardDoorsModel", name := "leftFrom", desc := "(II)I" } : Jvm.MethodName) prog_20_method_58_code (3 : Nat) (Option.some Jvm.ClassFile.FieldType.int)) ∈ lw_all := lw_g (lw_at lw_m7 109 rfl) rfl
theorem q1699 : (Jvm.Cond.methodLink "OutwardDoorsModel" (313 : Nat) ({ cls := "OutwardDoorsModel", name := "fillsDoors", desc := "(I)V" } : Jvm.MethodName)) ∈ lw_all := lw_g (lw_at lw_m7 110 rfl) rfl
theorem q1700 : (Jvm.Cond.privateMethod ({ cls := "OutwardDoorsModel", name := "fillsDoors", desc := "(I)V" } : Jvm.MethodName)) ∈ lw_tbl := lw_at lw_m7 111 rfl
theorem q1701 : (Jvm.Cond.instanceMethod ({ cls := "OutwardDoorsModel", name := "fillsDoors", desc := "(I)V" } : Jvm.MethodName)) ∈ lw_all := lw_g (lw_at lw_m7 112 rfl) rfl
theorem q1702 : (Jvm.Cond.code ({ cls := "OutwardDoorsModel", name := "fillsDoors", desc := "(I)V" } : Jvm.MethodName) prog_20_method_57_code (6 : Nat) (Option.none : Option Jvm.ClassFile.FieldType)) ∈ lw_all := lw_g (lw_at lw_m7 113 rfl) rfl
theorem q1703 : (Jvm.Cond.methodLink "OutwardDoorsModel" (310 : Nat) ({ cls := "OutwardDoorsModel", name := "isOpen", desc := "(I)Z" } : Jvm.MethodName)) ∈ lw_all := lw_g (lw_at lw_m7 114 rfl) rfl
theorem q1704 : (Jvm.Cond.privateMethod ({ cls := "OutwardDoorsModel", name := "isOpen", desc := "(I)Z" } : Jvm.MethodName)) ∈ lw_tbl := lw_at lw_m7 115 rfl
theorem q1705 : (Jvm.Cond.instanceMethod ({ cls := "OutwardDoorsModel", name := "isOpen", desc := "(I)Z" } : Jvm.MethodName)) ∈ lw_all := lw_g (lw_at lw_m7 116 rfl) rfl
theorem q1706 : (Jvm.Cond.code ({ cls := "OutwardDoorsModel", name := "isOpen", desc := "(I)Z" } : Jvm.MethodName) prog_20_method_56_code (2 : Nat) (Option.some Jvm.ClassFile.FieldType.boolean)) ∈ lw_all := lw_g (lw_at lw_m7 117 rfl) rfl
theorem q1707 : (Jvm.Cond.methodLink "OutwardDoorsModel" (301 : Nat) ({ cls := "OutwardDoorsModel", name := "nearOf", desc := "(I)I" } : Jvm.MethodName)) ∈ lw_all := lw_g (lw_at lw_m7 118 rfl) rfl
theorem q1708 : (Jvm.Cond.privateMethod ({ cls := "OutwardDoorsModel", name := "nearOf", desc := "(I)I" } : Jvm.MethodName)) ∈ lw_tbl := lw_at lw_m7 119 rfl
theorem q1709 : (Jvm.Cond.instanceMethod ({ cls := "OutwardDoorsModel", name := "nearOf", desc := "(I)I" } : Jvm.MethodName)) ∈ lw_all := lw_g (lw_at lw_m7 120 rfl) rfl
theorem q1710 : (Jvm.Cond.code ({ cls := "OutwardDoorsModel", name := "nearOf", desc := "(I)I" } : Jvm.MethodName) prog_20_method_53_code (2 : Nat) (Option.some Jvm.ClassFile.FieldType.int)) ∈ lw_all := lw_g (lw_at lw_m7 121 rfl) rfl
theorem q1711 : (Jvm.Cond.methodLink "OutwardDoorsModel" (304 : Nat) ({ cls := "OutwardDoorsModel", name := "farOf", desc := "(I)I" } : Jvm.MethodName)) ∈ lw_all := lw_g (lw_at lw_m7 122 rfl) rfl
theorem q1712 : (Jvm.Cond.privateMethod ({ cls := "OutwardDoorsModel", name := "farOf", desc := "(I)I" } : Jvm.MethodName)) ∈ lw_tbl := lw_at lw_m7 123 rfl
theorem q1713 : (Jvm.Cond.instanceMethod ({ cls := "OutwardDoorsModel", name := "farOf", desc := "(I)I" } : Jvm.MethodName)) ∈ lw_all := lw_g (lw_at lw_m7 124 rfl) rfl
theorem q1714 : (Jvm.Cond.code ({ cls := "OutwardDoorsModel", name := "farOf", desc := "(I)I" } : Jvm.MethodName) prog_20_method_54_code (2 : Nat) (Option.some Jvm.ClassFile.FieldType.int)) ∈ lw_all := lw_g (lw_at lw_m7 125 rfl) rfl
theorem q1715 : (Jvm.Cond.methodLink "OutwardDoorsModel" (307 : Nat) ({ cls := "OutwardDoorsModel", name := "isNight", desc := "()Z" } : Jvm.MethodName)) ∈ lw_all := lw_g (lw_at lw_m7 126 rfl) rfl
theorem q1716 : (Jvm.Cond.privateMethod ({ cls := "OutwardDoorsModel", name := "isNight", desc := "()Z" } : Jvm.MethodName)) ∈ lw_tbl := lw_at lw_m7 127 rfl
theorem q1717 : (Jvm.Cond.instanceMethod ({ cls := "OutwardDoorsModel", name := "isNight", desc := "()Z" } : Jvm.MethodName)) ∈ lw_all := lw_g (lw_at lw_m7 128 rfl) rfl
theorem q1718 : (Jvm.Cond.code ({ cls := "OutwardDoorsModel", name := "isNight", desc := "()Z" } : Jvm.MethodName) prog_20_method_55_code (2 : Nat) (Option.some Jvm.ClassFile.FieldType.boolean)) ∈ lw_all := lw_g (lw_at lw_m7 129 rfl) rfl
theorem q1719 : (Jvm.Cond.methodLink "OutwardDoorsModel" (333 : Nat) ({ cls := "OutwardDoorsModel", name := "stepOf", desc := "(I)I" } : Jvm.MethodName)) ∈ lw_all := lw_g (lw_at lw_m7 130 rfl) rfl
theorem q1720 : (Jvm.Cond.privateMethod ({ cls := "OutwardDoorsModel", name := "stepOf", desc := "(I)I" } : Jvm.MethodName)) ∈ lw_tbl := lw_at lw_m7 131 rfl
theorem q1721 : (Jvm.Cond.instanceMethod ({ cls := "OutwardDoorsModel", name := "stepOf", desc := "(I)I" } : Jvm.MethodName)) ∈ lw_all := lw_g (lw_at lw_m7 132 rfl) rfl
theorem q1722 : (Jvm.Cond.code ({ cls := "OutwardDoorsModel", name := "stepOf", desc := "(I)I" } : Jvm.MethodName) prog_20_method_60_code (7 : Nat) (Option.some Jvm.ClassFile.FieldType.int)) ∈ lw_all := lw_g (lw_at lw_m7 133 rfl) rfl
theorem q1724 : (Jvm.Cond.instanceMethod ({ cls := "OutwardDoorsModel", name := "room", desc := "(II)I" } : Jvm.MethodName)) ∈ lw_all := lw_g (lw_at lw_m7 135 rfl) rfl
theorem q1725 : (Jvm.Cond.selects "OutwardDoorsModel" ({ cls := "OutwardDoorsModel", name := "room", desc := "(II)I" } : Jvm.MethodName) ({ cls := "OutwardDoorsModel", name := "room", desc := "(II)I" } : Jvm.MethodName)) ∈ lw_all := lw_g (lw_at lw_m7 136 rfl) rfl
theorem q1726 : (Jvm.Cond.code ({ cls := "OutwardDoorsModel", name := "room", desc := "(II)I" } : Jvm.MethodName) prog_20_method_66_code (3 : Nat) (Option.some Jvm.ClassFile.FieldType.int)) ∈ lw_all := lw_g (lw_at lw_m7 137 rfl) rfl
theorem q1727 : (Jvm.Cond.methodLink "OutwardDoorsModel" (336 : Nat) ({ cls := "OutwardDoorsModel", name := "isRoom", desc := "(I)Z" } : Jvm.MethodName)) ∈ lw_all := lw_g (lw_at lw_m7 138 rfl) rfl
theorem q1728 : (Jvm.Cond.privateMethod ({ cls := "OutwardDoorsModel", name := "isRoom", desc := "(I)Z" } : Jvm.MethodName)) ∈ lw_tbl := lw_at lw_m7 139 rfl
theorem q1729 : (Jvm.Cond.instanceMethod ({ cls := "OutwardDoorsModel", name := "isRoom", desc := "(I)Z" } : Jvm.MethodName)) ∈ lw_all := lw_g (lw_at lw_m7 140 rfl) rfl
theorem q1730 : (Jvm.Cond.code ({ cls := "OutwardDoorsModel", name := "isRoom", desc := "(I)Z" } : Jvm.MethodName) prog_20_method_50_code (2 : Nat) (Option.some Jvm.ClassFile.FieldType.boolean)) ∈ lw_all := lw_g (lw_at lw_m7 141 rfl) rfl
theorem q1731 : (Jvm.Cond.constantLong "OutwardDoorsModel" (339 : Nat) (2 : Int64)) ∈ lw_all := lw_g (lw_at lw_m7 142 rfl) rfl
theorem q1732 : (Jvm.Cond.methodLink "OutwardDoorsModel" (341 : Nat) ({ cls := "OutwardDoorsModel", name := "peopleIn", desc := "(I)I" } : Jvm.MethodName)) ∈ lw_all := lw_g (lw_at lw_m7 143 rfl) rfl
theorem q1733 : (Jvm.Cond.privateMethod ({ cls := "OutwardDoorsModel", name := "peopleIn", desc := "(I)I" } : Jvm.MethodName)) ∈ lw_tbl := lw_at lw_m7 144 rfl
theorem q1734 : (Jvm.Cond.instanceMethod ({ cls := "OutwardDoorsModel", name := "peopleIn", desc := "(I)I" } : Jvm.MethodName)) ∈ lw_all := lw_g (lw_at lw_m7 145 rfl) rfl
theorem q1735 : (Jvm.Cond.code ({ cls := "OutwardDoorsModel", name := "peopleIn", desc := "(I)I" } : Jvm.MethodName) prog_20_method_62_code (4 : Nat) (Option.some Jvm.ClassFile.FieldType.int)) ∈ lw_all := lw_g (lw_at lw_m7 146 rfl) rfl
theorem q1736 : (Jvm.Cond.methodLink "OutwardDoorsModel" (344 : Nat) ({ cls := "OutwardDoorsModel", name := "outsideOf", desc := "(I)I" } : Jvm.MethodName)) ∈ lw_all := lw_g (lw_at lw_m7 147 rfl) rfl
theorem q1737 : (Jvm.Cond.privateMethod ({ cls := "OutwardDoorsModel", name := "outsideOf", desc := "(I)I" } : Jvm.MethodName)) ∈ lw_tbl := lw_at lw_m7 148 rfl
theorem q1738 : (Jvm.Cond.instanceMethod ({ cls := "OutwardDoorsModel", name := "outsideOf", desc := "(I)I" } : Jvm.MethodName)) ∈ lw_all := lw_g (lw_at lw_m7 149 rfl) rfl
theorem q1739 : (Jvm.Cond.code ({ cls := "OutwardDoorsModel", name := "outsideOf", desc := "(I)I" } : Jvm.MethodName) prog_20_method_63_code (5 : Nat) (Option.some Jvm.ClassFile.FieldType.int)) ∈ lw_all := lw_g (lw_at lw_m7 150 rfl) rfl
theorem q1740 : (Jvm.Cond.methodLink "OutwardDoorsModel" (322 : Nat) ({ cls := "OutwardDoorsModel", name := "isOf", desc := "(II)Z" } : Jvm.MethodName)) ∈ lw_all := lw_g (lw_at lw_m7 151 rfl) rfl
theorem q1741 : (Jvm.Cond.static ({ cls := "OutwardDoorsModel", name := "isOf", desc := "(II)Z" } : Jvm.MethodName)) ∈ lw_all := lw_g (lw_at lw_m7 152 rfl) rfl
theorem q1742 : (Jvm.Cond.code ({ cls := "OutwardDoorsModel", name := "isOf", desc := "(II)Z" } : Jvm.MethodName) prog_20_method_3_code (2 : Nat) (Option.some Jvm.ClassFile.FieldType.boolean)) ∈ lw_all := lw_g (lw_at lw_m7 153 rfl) rfl
theorem q1744 : (Jvm.Cond.instanceMethod ({ cls := "OutwardDoorsModel", name := "door", desc := "(II)I" } : Jvm.MethodName)) ∈ lw_all := lw_g (lw_at lw_m7 155 rfl) rfl
theorem q1745 : (Jvm.Cond.selects "OutwardDoorsModel" ({ cls := "OutwardDoorsModel", name := "door", desc := "(II)I" } : Jvm.MethodName) ({ cls := "OutwardDoorsModel", name := "door", desc := "(II)I" } : Jvm.MethodName)) ∈ lw_all := lw_g (lw_at lw_m7 156 rfl) rfl
theorem q1746 : (Jvm.Cond.code ({ cls := "OutwardDoorsModel", name := "door", desc := "(II)I" } : Jvm.MethodName) prog_20_method_67_code (3 : Nat) (Option.some Jvm.ClassFile.FieldType.int)) ∈ lw_all := lw_g (lw_at lw_m7 157 rfl) rfl
theorem q1747 : (Jvm.Cond.methodLink "OutwardDoorsModel" (347 : Nat) ({ cls := "OutwardDoorsModel", name := "isDoor", desc := "(I)Z" } : Jvm.MethodName)) ∈ lw_all := lw_g (lw_at lw_m7 158 rfl) rfl
theorem q1748 : (Jvm.Cond.privateMethod ({ cls := "OutwardDoorsModel", name := "isDoor", desc := "(I)Z" } : Jvm.MethodName)) ∈ lw_tbl := lw_at lw_m7 159 rfl
theorem q1749 : (Jvm.Cond.instanceMethod ({ cls := "OutwardDoorsModel", name := "isDoor", desc := "(I)Z" } : Jvm.MethodName)) ∈ lw_all := lw_g (lw_at lw_m7 160 rfl) rfl
theorem q1750 : (Jvm.Cond.code ({ cls := "OutwardDoorsModel", name := "isDoor", desc := "(I)Z" } : Jvm.MethodName) prog_20_method_51_code (2 : Nat) (Option.some Jvm.ClassFile.FieldType.boolean)) ∈ lw_all := lw_g (lw_at lw_m7 161 rfl) rfl
theorem q1751 : (Jvm.Cond.constantLong "OutwardDoorsModel" (350 : Nat) (3 : Int64)) ∈ lw_all := lw_g (lw_at lw_m7 162 rfl) rfl
theorem q1753 : (Jvm.Cond.instanceMethod ({ cls := "OutwardDoorsModel", name := "undo", desc := "()I" } : Jvm.MethodName)) ∈ lw_all := lw_g (lw_at lw_m7 164 rfl) rfl
theorem q1754 : (Jvm.Cond.selects "OutwardDoorsModel" ({ cls := "OutwardDoorsModel", name := "undo", desc := "()I" } : Jvm.MethodName) ({ cls := "OutwardDoorsModel", name := "undo", desc := "()I" } : Jvm.MethodName)) ∈ lw_all := lw_g (lw_at lw_m7 165 rfl) rfl
theorem q1755 : (Jvm.Cond.code ({ cls := "OutwardDoorsModel", name := "undo", desc := "()I" } : Jvm.MethodName) prog_20_method_79_code (2 : Nat) (Option.some Jvm.ClassFile.FieldType.int)) ∈ lw_all := lw_g (lw_at lw_m7 166 rfl) rfl
theorem q1757 : (Jvm.Cond.instanceMethod ({ cls := "OutwardDoorsModel", name := "moment", desc := "()I" } : Jvm.MethodName)) ∈ lw_all := lw_g (lw_at lw_m7 168 rfl) rfl
theorem q1758 : (Jvm.Cond.selects "OutwardDoorsModel" ({ cls := "OutwardDoorsModel", name := "moment", desc := "()I" } : Jvm.MethodName) ({ cls := "OutwardDoorsModel", name := "moment", desc := "()I" } : Jvm.MethodName)) ∈ lw_all := lw_g (lw_at lw_m7 169 rfl) rfl
theorem q1759 : (Jvm.Cond.code ({ cls := "OutwardDoorsModel", name := "moment", desc := "()I" } : Jvm.MethodName) prog_20_method_80_code (1 : Nat) (Option.some Jvm.ClassFile.FieldType.int)) ∈ lw_all := lw_g (lw_at lw_m7 170 rfl) rfl
theorem q1760 : (Jvm.Cond.methodLink "OutwardDoorsModel" (389 : Nat) ({ cls := "OutwardDoorsModel", name := "isCastle", desc := "()Z" } : Jvm.MethodName)) ∈ lw_all := lw_g (lw_at lw_m7 171 rfl) rfl
theorem q1761 : (Jvm.Cond.privateMethod ({ cls := "OutwardDoorsModel", name := "isCastle", desc := "()Z" } : Jvm.MethodName)) ∈ lw_tbl := lw_at lw_m7 172 rfl
theorem q1762 : (Jvm.Cond.instanceMethod ({ cls := "OutwardDoorsModel", name := "isCastle", desc := "()Z" } : Jvm.MethodName)) ∈ lw_all := lw_g (lw_at lw_m7 173 rfl) rfl
theorem q1763 : (Jvm.Cond.code ({ cls := "OutwardDoorsModel", name := "isCastle", desc := "()Z" } : Jvm.MethodName) prog_20_method_48_code (1 : Nat) (Option.some Jvm.ClassFile.FieldType.boolean)) ∈ lw_all := lw_g (lw_at lw_m7 174 rfl) rfl
theorem q1764 : (Jvm.Cond.methodLink "OutwardDoorsModel" (392 : Nat) ({ cls := "OutwardDoorsModel", name := "keepsAct", desc := "()V" } : Jvm.MethodName)) ∈ lw_all := lw_g (lw_at lw_m7 175 rfl) rfl
theorem q1765 : (Jvm.Cond.privateMethod ({ cls := "OutwardDoorsModel", name := "keepsAct", desc := "()V" } : Jvm.MethodName)) ∈ lw_tbl := lw_at lw_m7 176 rfl
theorem q1766 : (Jvm.Cond.instanceMethod ({ cls := "OutwardDoorsModel", name := "keepsAct", desc := "()V" } : Jvm.MethodName)) ∈ lw_all := lw_g (lw_at lw_m7 177 rfl) rfl
theorem q1767 : (Jvm.Cond.code ({ cls := "OutwardDoorsModel", name := "keepsAct", desc := "()V" } : Jvm.MethodName) prog_20_method_78_code (2 : Nat) (Option.none : Option Jvm.ClassFile.FieldType)) ∈ lw_all := lw_g (lw_at lw_m7 178 rfl) rfl
theorem q1768 : (Jvm.Cond.methodLink "OutwardDoorsModel" (395 : Nat) ({ cls := "OutwardDoorsModel", name := "passes", desc := "()I" } : Jvm.MethodName)) ∈ lw_all := lw_g (lw_at lw_m7 179 rfl) rfl
theorem q1769 : (Jvm.Cond.privateMethod ({ cls := "OutwardDoorsModel", name := "passes", desc := "()I" } : Jvm.MethodName)) ∈ lw_tbl := lw_at lw_m7 180 rfl
theorem q1770 : (Jvm.Cond.instanceMethod ({ cls := "OutwardDoorsModel", name := "passes", desc := "()I" } : Jvm.MethodName)) ∈ lw_all := lw_g (lw_at lw_m7 181 rfl) rfl
theorem q1771 : (Jvm.Cond.code ({ cls := "OutwardDoorsModel", name := "passes", desc := "()I" } : Jvm.MethodName) prog_20_method_77_code (4 : Nat) (Option.some Jvm.ClassFile.FieldType.int)) ∈ lw_all := lw_g (lw_at lw_m7 182 rfl) rfl
theorem q1772 : (Jvm.Cond.methodLink "OutwardDoorsModel" (375 : Nat) ({ cls := "OutwardDoorsModel", name := "wills", desc := "(I)V" } : Jvm.MethodName)) ∈ lw_all := lw_g (lw_at lw_m7 183 rfl) rfl
theorem q1773 : (Jvm.Cond.privateMethod ({ cls := "OutwardDoorsModel", name := "wills", desc := "(I)V" } : Jvm.MethodName)) ∈ lw_tbl := lw_at lw_m7 184 rfl
theorem q1774 : (Jvm.Cond.instanceMethod ({ cls := "OutwardDoorsModel", name := "wills", desc := "(I)V" } : Jvm.MethodName)) ∈ lw_all := lw_g (lw_at lw_m7 185 rfl) rfl
theorem q1775 : (Jvm.Cond.code ({ cls := "OutwardDoorsModel", name := "wills", desc := "(I)V" } : Jvm.MethodName) prog_20_method_73_code (6 : Nat) (Option.none : Option Jvm.ClassFile.FieldType)) ∈ lw_all := lw_g (lw_at lw_m7 186 rfl) rfl
theorem q1776 : (Jvm.Cond.methodLink "OutwardDoorsModel" (362 : Nat) ({ cls := "OutwardDoorsModel", name := "words", desc := "(I)V" } : Jvm.MethodName)) ∈ lw_all := lw_g (lw_at lw_m7 187 rfl) rfl
theorem q1777 : (Jvm.Cond.privateMethod ({ cls := "OutwardDoorsModel", name := "words", desc := "(I)V" } : Jvm.MethodName)) ∈ lw_tbl := lw_at lw_m7 188 rfl
theorem q1778 : (Jvm.Cond.instanceMethod ({ cls := "OutwardDoorsModel", name := "words", desc := "(I)V" } : Jvm.MethodName)) ∈ lw_all := lw_g (lw_at lw_m7 189 rfl) rfl
theorem q1779 : (Jvm.Cond.code ({ cls := "OutwardDoorsModel", name := "words", desc := "(I)V" } : Jvm.MethodName) prog_20_method_70_code (3 : Nat) (Option.none : Option Jvm.ClassFile.FieldType)) ∈ lw_all := lw_g (lw_at lw_m7 190 rfl) rfl
theorem q1780 : (Jvm.Cond.methodLink "OutwardDoorsModel" (352 : Nat) ({ cls := "OutwardDoorsModel", name := "bits", desc := "(I)I" } : Jvm.MethodName)) ∈ lw_all := lw_g (lw_at lw_m7 191 rfl) rfl
theorem q1781 : (Jvm.Cond.static ({ cls := "OutwardDoorsModel", name := "bits", desc := "(I)I" } : Jvm.MethodName)) ∈ lw_all := lw_g (lw_at lw_m7 192 rfl) rfl
theorem q1782 : (Jvm.Cond.code ({ cls := "OutwardDoorsModel", name := "bits", desc := "(I)I" } : Jvm.MethodName) prog_20_method_69_code (3 : Nat) (Option.some Jvm.ClassFile.FieldType.int)) ∈ lw_all := lw_g (lw_at lw_m7 193 rfl) rfl
theorem q1783 : (Jvm.Cond.methodLink "OutwardDoorsModel" (355 : Nat) ({ cls := "OutwardDoorsModel", name := "askersOf", desc := "(I)I" } : Jvm.MethodName)) ∈ lw_all := lw_g (lw_at lw_m7 194 rfl) rfl
theorem q1784 : (Jvm.Cond.privateMethod ({ cls := "OutwardDoorsModel", name := "askersOf", desc := "(I)I" } : Jvm.MethodName)) ∈ lw_tbl := lw_at lw_m7 195 rfl
theorem q1785 : (Jvm.Cond.instanceMethod ({ cls := "OutwardDoorsModel", name := "askersOf", desc := "(I)I" } : Jvm.MethodName)) ∈ lw_all := lw_g (lw_at lw_m7 196 rfl) rfl
theorem q1786 : (Jvm.Cond.code ({ cls := "OutwardDoorsModel", name := "askersOf", desc := "(I)I" } : Jvm.MethodName) prog_20_method_68_code (5 : Nat) (Option.some Jvm.ClassFile.FieldType.int)) ∈ lw_all := lw_g (lw_at lw_m7 197 rfl) rfl
theorem q1787 : (Jvm.Cond.methodLink "OutwardDoorsModel" (365 : Nat) ({ cls := "OutwardDoorsModel", name := "summedBy", desc := "(I)J" } : Jvm.MethodName)) ∈ lw_all := lw_g (lw_at lw_m7 198 rfl) rfl
theorem q1788 : (Jvm.Cond.privateMethod ({ cls := "OutwardDoorsModel", name := "summedBy", desc := "(I)J" } : Jvm.MethodName)) ∈ lw_tbl := lw_at lw_m7 199 rfl
theorem q1789 : (Jvm.Cond.instanceMethod ({ cls := "OutwardDoorsModel", name := "summedBy", desc := "(I)J" } : Jvm.MethodName)) ∈ lw_all := lw_g (lw_at lw_m7 200 rfl) rfl
theorem q1790 : (Jvm.Cond.code ({ cls := "OutwardDoorsModel", name := "summedBy", desc := "(I)J" } : Jvm.MethodName) prog_20_method_71_code (4 : Nat) (Option.some Jvm.ClassFile.FieldType.long)) ∈ lw_all := lw_g (lw_at lw_m7 201 rfl) rfl
theorem q1791 : (Jvm.Cond.methodLink "OutwardDoorsModel" (358 : Nat) ({ cls := "OutwardDoorsModel", name := "reckons", desc := "(III)J" } : Jvm.MethodName)) ∈ lw_all := lw_g (lw_at lw_m7 202 rfl) rfl
theorem q1792 : (Jvm.Cond.privateMethod ({ cls := "OutwardDoorsModel", name := "reckons", desc := "(III)J" } : Jvm.MethodName)) ∈ lw_tbl := lw_at lw_m7 203 rfl
theorem q1793 : (Jvm.Cond.instanceMethod ({ cls := "OutwardDoorsModel", name := "reckons", desc := "(III)J" } : Jvm.MethodName)) ∈ lw_all := lw_g (lw_at lw_m7 204 rfl) rfl
theorem q1794 : (Jvm.Cond.code ({ cls := "OutwardDoorsModel", name := "reckons", desc := "(III)J" } : Jvm.MethodName) prog_20_method_47_code (11 : Nat) (Option.some Jvm.ClassFile.FieldType.long)) ∈ lw_all := lw_g (lw_at lw_m7 205 rfl) rfl
theorem q1795 : (Jvm.Cond.methodLink "OutwardDoorsModel" (289 : Nat) ({ cls := "OutwardDoorsModel", name := "push", desc := "(J)V" } : Jvm.MethodName)) ∈ lw_all := lw_g (lw_at lw_m7 206 rfl) rfl
theorem q1796 : (Jvm.Cond.privateMethod ({ cls := "OutwardDoorsModel", name := "push", desc := "(J)V" } : Jvm.MethodName)) ∈ lw_tbl := lw_at lw_m7 207 rfl
theorem q1797 : (Jvm.Cond.instanceMethod ({ cls := "OutwardDoorsModel", name := "push", desc := "(J)V" } : Jvm.MethodName)) ∈ lw_all := lw_g (lw_at lw_m7 208 rfl) rfl
theorem q1798 : (Jvm.Cond.code ({ cls := "OutwardDoorsModel", name := "push", desc := "(J)V" } : Jvm.MethodName) prog_20_method_44_code (3 : Nat) (Option.none : Option Jvm.ClassFile.FieldType)) ∈ lw_all := lw_g (lw_at lw_m7 209 rfl) rfl
theorem q1799 : (Jvm.Cond.methodLink "OutwardDoorsModel" (293 : Nat) ({ cls := "OutwardDoorsModel", name := "pop", desc := "()J" } : Jvm.MethodName)) ∈ lw_all := lw_g (lw_at lw_m7 210 rfl) rfl
theorem q1800 : (Jvm.Cond.privateMethod ({ cls := "OutwardDoorsModel", name := "pop", desc := "()J" } : Jvm.MethodName)) ∈ lw_tbl := lw_at lw_m7 211 rfl
theorem q1801 : (Jvm.Cond.instanceMethod ({ cls := "OutwardDoorsModel", name := "pop", desc := "()J" } : Jvm.MethodName)) ∈ lw_all := lw_g (lw_at lw_m7 212 rfl) rfl
theorem q1802 : (Jvm.Cond.code ({ cls := "OutwardDoorsModel", name := "pop", desc := "()J" } : Jvm.MethodName) prog_20_method_45_code (1 : Nat) (Option.some Jvm.ClassFile.FieldType.long)) ∈ lw_all := lw_g (lw_at lw_m7 213 rfl) rfl
theorem q1803 : (Jvm.Cond.methodLink "OutwardDoorsModel" (297 : Nat) ({ cls := "OutwardDoorsModel", name := "one", desc := "(IJJ)J" } : Jvm.MethodName)) ∈ lw_all := lw_g (lw_at lw_m7 214 rfl) rfl
theorem q1804 : (Jvm.Cond.static ({ cls := "OutwardDoorsModel", name := "one", desc := "(IJJ)J" } : Jvm.MethodName)) ∈ lw_all := lw_g (lw_at lw_m7 215 rfl) rfl
theorem q1805 : (Jvm.Cond.code ({ cls := "OutwardDoorsModel", name := "one", desc := "(IJJ)J" } : Jvm.MethodName) prog_20_method_46_code (5 : Nat) (Option.some Jvm.ClassFile.FieldType.long)) ∈ lw_all := lw_g (lw_at lw_m7 216 rfl) rfl
theorem q1806 : (Jvm.Cond.methodLink "OutwardDoorsModel" (369 : Nat) ({ cls := "OutwardDoorsModel", name := "firstOut", desc := "(I)I" } : Jvm.MethodName)) ∈ lw_all := lw_g (lw_at lw_m7 217 rfl) rfl
theorem q1807 : (Jvm.Cond.privateMethod ({ cls := "OutwardDoorsModel", name := "firstOut", desc := "(I)I" } : Jvm.MethodName)) ∈ lw_tbl := lw_at lw_m7 218 rfl
theorem q1808 : (Jvm.Cond.instanceMethod ({ cls := "OutwardDoorsModel", name := "firstOut", desc := "(I)I" } : Jvm.MethodName)) ∈ lw_all := lw_g (lw_at lw_m7 219 rfl) rfl
theorem q1809 : (Jvm.Cond.code ({ cls := "OutwardDoorsModel", name := "firstOut", desc := "(I)I" } : Jvm.MethodName) prog_20_method_72_code (3 : Nat) (Option.some Jvm.ClassFile.FieldType.int)) ∈ lw_all := lw_g (lw_at lw_m7 220 rfl) rfl
theorem q1810 : (Jvm.Cond.methodLink "OutwardDoorsModel" (372 : Nat) ({ cls := "OutwardDoorsModel", name := "doorBetween", desc := "(II)I" } : Jvm.MethodName)) ∈ lw_all := lw_g (lw_at lw_m7 221 rfl) rfl
theorem q1811 : (Jvm.Cond.privateMethod ({ cls := "OutwardDoorsModel", name := "doorBetween", desc := "(II)I" } : Jvm.MethodName)) ∈ lw_tbl := lw_at lw_m7 222 rfl
theorem q1812 : (Jvm.Cond.instanceMethod ({ cls := "OutwardDoorsModel", name := "doorBetween", desc := "(II)I" } : Jvm.MethodName)) ∈ lw_all := lw_g (lw_at lw_m7 223 rfl) rfl
theorem q1813 : (Jvm.Cond.code ({ cls := "OutwardDoorsModel", name := "doorBetween", desc := "(II)I" } : Jvm.MethodName) prog_20_method_61_code (4 : Nat) (Option.some Jvm.ClassFile.FieldType.int)) ∈ lw_all := lw_g (lw_at lw_m7 224 rfl) rfl
theorem q1814 : (Jvm.Cond.methodLink "OutwardDoorsModel" (378 : Nat) ({ cls := "OutwardDoorsModel", name := "goesOut", desc := "(II)V" } : Jvm.MethodName)) ∈ lw_all := lw_g (lw_at lw_m7 225 rfl) rfl
theorem q1815 : (Jvm.Cond.privateMethod ({ cls := "OutwardDoorsModel", name := "goesOut", desc := "(II)V" } : Jvm.MethodName)) ∈ lw_tbl := lw_at lw_m7 226 rfl
theorem q1816 : (Jvm.Cond.instanceMethod ({ cls := "OutwardDoorsModel", name := "goesOut", desc := "(II)V" } : Jvm.MethodName)) ∈ lw_all := lw_g (lw_at lw_m7 227 rfl) rfl
theorem q1817 : (Jvm.Cond.code ({ cls := "OutwardDoorsModel", name := "goesOut", desc := "(II)V" } : Jvm.MethodName) prog_20_method_74_code (4 : Nat) (Option.none : Option Jvm.ClassFile.FieldType)) ∈ lw_all := lw_g (lw_at lw_m7 228 rfl) rfl
theorem q1818 : (Jvm.Cond.methodLink "OutwardDoorsModel" (381 : Nat) ({ cls := "OutwardDoorsModel", name := "willer", desc := "(IZI)I" } : Jvm.MethodName)) ∈ lw_all := lw_g (lw_at lw_m7 229 rfl) rfl
theorem q1819 : (Jvm.Cond.privateMethod ({ cls := "OutwardDoorsModel", name := "willer", desc := "(IZI)I" } : Jvm.MethodName)) ∈ lw_tbl := lw_at lw_m7 230 rfl
theorem q1820 : (Jvm.Cond.instanceMethod ({ cls := "OutwardDoorsModel", name := "willer", desc := "(IZI)I" } : Jvm.MethodName)) ∈ lw_all := lw_g (lw_at lw_m7 231 rfl) rfl
theorem q1821 : (Jvm.Cond.code ({ cls := "OutwardDoorsModel", name := "willer", desc := "(IZI)I" } : Jvm.MethodName) prog_20_method_76_code (6 : Nat) (Option.some Jvm.ClassFile.FieldType.int)) ∈ lw_all := lw_g (lw_at lw_m7 232 rfl) rfl
theorem q1822 : (Jvm.Cond.methodLink "OutwardDoorsModel" (385 : Nat) ({ cls := "OutwardDoorsModel", name := "comesIn", desc := "(III)V" } : Jvm.MethodName)) ∈ lw_all := lw_g (lw_at lw_m7 233 rfl) rfl
theorem q1823 : (Jvm.Cond.privateMethod ({ cls := "OutwardDoorsModel", name := "comesIn", desc := "(III)V" } : Jvm.MethodName)) ∈ lw_tbl := lw_at lw_m7 234 rfl
theorem q1824 : (Jvm.Cond.instanceMethod ({ cls := "OutwardDoorsModel", name := "comesIn", desc := "(III)V" } : Jvm.MethodName)) ∈ lw_all := lw_g (lw_at lw_m7 235 rfl) rfl
theorem q1825 : (Jvm.Cond.code ({ cls := "OutwardDoorsModel", name := "comesIn", desc := "(III)V" } : Jvm.MethodName) prog_20_method_75_code (5 : Nat) (Option.none : Option Jvm.ClassFile.FieldType)) ∈ lw_all := lw_g (lw_at lw_m7 236 rfl) rfl
theorem q1827 : (Jvm.Cond.instanceMethod ({ cls := "OutwardDoorsModel", name := "aim", desc := "(II)I" } : Jvm.MethodName)) ∈ lw_all := lw_g (lw_at lw_m7 238 rfl) rfl
theorem q1828 : (Jvm.Cond.selects "OutwardDoorsModel" ({ cls := "OutwardDoorsModel", name := "aim", desc := "(II)I" } : Jvm.MethodName) ({ cls := "OutwardDoorsModel", name := "aim", desc := "(II)I" } : Jvm.MethodName)) ∈ lw_all := lw_g (lw_at lw_m7 239 rfl) rfl
theorem q1829 : (Jvm.Cond.code ({ cls := "OutwardDoorsModel", name := "aim", desc := "(II)I" } : Jvm.MethodName) prog_20_method_81_code (4 : Nat) (Option.some Jvm.ClassFile.FieldType.int)) ∈ lw_all := lw_g (lw_at lw_m8 0 rfl) rfl
theorem q1831 : (Jvm.Cond.instanceMethod ({ cls := "OutwardDoorsModel", name := "send", desc := "(III)Z" } : Jvm.MethodName)) ∈ lw_all := lw_g (lw_at lw_m8 2 rfl) rfl
theorem q1832 : (Jvm.Cond.selects "OutwardDoorsModel" ({ cls := "OutwardDoorsModel", name := "send", desc := "(III)Z" } : Jvm.MethodName) ({ cls := "OutwardDoorsModel", name := "send", desc := "(III)Z" } : Jvm.MethodName)) ∈ lw_all := lw_g (lw_at lw_m8 3 rfl) rfl
theorem q1833 : (Jvm.Cond.code ({ cls := "OutwardDoorsModel", name := "send", desc := "(III)Z" } : Jvm.MethodName) prog_20_method_82_code (4 : Nat) (Option.some Jvm.ClassFile.FieldType.boolean)) ∈ lw_all := lw_g (lw_at lw_m8 4 rfl) rfl
theorem q1835 : (Jvm.Cond.instanceMethod ({ cls := "OutwardDoorsModel", name := "ahead", desc := "(II)I" } : Jvm.MethodName)) ∈ lw_all := lw_g (lw_at lw_m8 6 rfl) rfl
theorem q1836 : (Jvm.Cond.selects "OutwardDoorsModel" ({ cls := "OutwardDoorsModel", name := "ahead", desc := "(II)I" } : Jvm.MethodName) ({ cls := "OutwardDoorsModel", name := "ahead", desc := "(II)I" } : Jvm.MethodName)) ∈ lw_all := lw_g (lw_at lw_m8 7 rfl) rfl
theorem q1837 : (Jvm.Cond.code ({ cls := "OutwardDoorsModel", name := "ahead", desc := "(II)I" } : Jvm.MethodName) prog_20_method_85_code (4 : Nat) (Option.some Jvm.ClassFile.FieldType.int)) ∈ lw_all := lw_g (lw_at lw_m8 8 rfl) rfl
theorem q1838 : (Jvm.Cond.constantLong "OutwardDoorsModel" (398 : Nat) (100 : Int64)) ∈ lw_all := lw_g (lw_at lw_m8 9 rfl) rfl
theorem q1839 : (Jvm.Cond.methodLink "OutwardDoorsModel" (400 : Nat) ({ cls := "OutwardDoorsModel", name := "keeps", desc := "()V" } : Jvm.MethodName)) ∈ lw_all := lw_g (lw_at lw_m8 10 rfl) rfl
theorem q1840 : (Jvm.Cond.privateMethod ({ cls := "OutwardDoorsModel", name := "keeps", desc := "()V" } : Jvm.MethodName)) ∈ lw_tbl := lw_at lw_m8 11 rfl
theorem q1841 : (Jvm.Cond.instanceMethod ({ cls := "OutwardDoorsModel", name := "keeps", desc := "()V" } : Jvm.MethodName)) ∈ lw_all := lw_g (lw_at lw_m8 12 rfl) rfl
theorem q1842 : (Jvm.Cond.code ({ cls := "OutwardDoorsModel", name := "keeps", desc := "()V" } : Jvm.MethodName) prog_20_method_83_code (2 : Nat) (Option.none : Option Jvm.ClassFile.FieldType)) ∈ lw_all := lw_g (lw_at lw_m8 13 rfl) rfl
theorem q1843 : (Jvm.Cond.methodLink "OutwardDoorsModel" (403 : Nat) ({ cls := "OutwardDoorsModel", name := "laysBack", desc := "()V" } : Jvm.MethodName)) ∈ lw_all := lw_g (lw_at lw_m8 14 rfl) rfl
theorem q1844 : (Jvm.Cond.privateMethod ({ cls := "OutwardDoorsModel", name := "laysBack", desc := "()V" } : Jvm.MethodName)) ∈ lw_tbl := lw_at lw_m8 15 rfl
theorem q1845 : (Jvm.Cond.instanceMethod ({ cls := "OutwardDoorsModel", name := "laysBack", desc := "()V" } : Jvm.MethodName)) ∈ lw_all := lw_g (lw_at lw_m8 16 rfl) rfl
theorem q1846 : (Jvm.Cond.code ({ cls := "OutwardDoorsModel", name := "laysBack", desc := "()V" } : Jvm.MethodName) prog_20_method_84_code (2 : Nat) (Option.none : Option Jvm.ClassFile.FieldType)) ∈ lw_all := lw_g (lw_at lw_m8 17 rfl) rfl
theorem q1848 : (Jvm.Cond.instanceMethod ({ cls := "OutwardDoorsModel", name := "comes", desc := "(I)I" } : Jvm.MethodName)) ∈ lw_all := lw_g (lw_at lw_m8 19 rfl) rfl
theorem q1849 : (Jvm.Cond.selects "OutwardDoorsModel" ({ cls := "OutwardDoorsModel", name := "comes", desc := "(I)I" } : Jvm.MethodName) ({ cls := "OutwardDoorsModel", name := "comes", desc := "(I)I" } : Jvm.MethodName)) ∈ lw_all := lw_g (lw_at lw_m8 20 rfl) rfl
theorem q1850 : (Jvm.Cond.code ({ cls := "OutwardDoorsModel", name := "comes", desc := "(I)I" } : Jvm.MethodName) prog_20_method_86_code (4 : Nat) (Option.some Jvm.ClassFile.FieldType.int)) ∈ lw_all := lw_g (lw_at lw_m8 21 rfl) rfl
theorem q1852 : (Jvm.Cond.instanceMethod ({ cls := "OutwardDoorsModel", name := "fewest", desc := "(I)I" } : Jvm.MethodName)) ∈ lw_all := lw_g (lw_at lw_m8 23 rfl) rfl
theorem q1853 : (Jvm.Cond.selects "OutwardDoorsModel" ({ cls := "OutwardDoorsModel", name := "fewest", desc := "(I)I" } : Jvm.MethodName) ({ cls := "OutwardDoorsModel", name := "fewest", desc := "(I)I" } : Jvm.MethodName)) ∈ lw_all := lw_g (lw_at lw_m8 24 rfl) rfl
theorem q1854 : (Jvm.Cond.code ({ cls := "OutwardDoorsModel", name := "fewest", desc := "(I)I" } : Jvm.MethodName) prog_20_method_98_code (3 : Nat) (Option.some Jvm.ClassFile.FieldType.int)) ∈ lw_all := lw_g (lw_at lw_m8 25 rfl) rfl
theorem q1855 : (Jvm.Cond.methodLink "OutwardDoorsModel" (437 : Nat) ({ cls := "OutwardDoorsModel", name := "isSet", desc := "(I)Z" } : Jvm.MethodName)) ∈ lw_all := lw_g (lw_at lw_m8 26 rfl) rfl
theorem q1856 : (Jvm.Cond.privateMethod ({ cls := "OutwardDoorsModel", name := "isSet", desc := "(I)Z" } : Jvm.MethodName)) ∈ lw_tbl := lw_at lw_m8 27 rfl
theorem q1857 : (Jvm.Cond.instanceMethod ({ cls := "OutwardDoorsModel", name := "isSet", desc := "(I)Z" } : Jvm.MethodName)) ∈ lw_all := lw_g (lw_at lw_m8 28 rfl) rfl
theorem q1858 : (Jvm.Cond.code ({ cls := "OutwardDoorsModel", name := "isSet", desc := "(I)Z" } : Jvm.MethodName) prog_20_method_97_code (2 : Nat) (Option.some Jvm.ClassFile.FieldType.boolean)) ∈ lw_all := lw_g (lw_at lw_m8 29 rfl) rfl
theorem q1859 : (Jvm.Cond.methodLink "OutwardDoorsModel" (440 : Nat) ({ cls := "OutwardDoorsModel", name := "fillsPassings", desc := "(III)V" } : Jvm.MethodName)) ∈ lw_all := lw_g (lw_at lw_m8 30 rfl) rfl
theorem q1860 : (Jvm.Cond.privateMethod ({ cls := "OutwardDoorsModel", name := "fillsPassings", desc := "(III)V" } : Jvm.MethodName)) ∈ lw_tbl := lw_at lw_m8 31 rfl
theorem q1861 : (Jvm.Cond.instanceMethod ({ cls := "OutwardDoorsModel", name := "fillsPassings", desc := "(III)V" } : Jvm.MethodName)) ∈ lw_all := lw_g (lw_at lw_m8 32 rfl) rfl
theorem q1862 : (Jvm.Cond.code ({ cls := "OutwardDoorsModel", name := "fillsPassings", desc := "(III)V" } : Jvm.MethodName) prog_20_method_96_code (5 : Nat) (Option.none : Option Jvm.ClassFile.FieldType)) ∈ lw_all := lw_g (lw_at lw_m8 33 rfl) rfl
theorem q1863 : (Jvm.Cond.methodLink "OutwardDoorsModel" (428 : Nat) ({ cls := "OutwardDoorsModel", name := "clears", desc := "(I)V" } : Jvm.MethodName)) ∈ lw_all := lw_g (lw_at lw_m8 34 rfl) rfl
theorem q1864 : (Jvm.Cond.privateMethod ({ cls := "OutwardDoorsModel", name := "clears", desc := "(I)V" } : Jvm.MethodName)) ∈ lw_tbl := lw_at lw_m8 35 rfl
theorem q1865 : (Jvm.Cond.instanceMethod ({ cls := "OutwardDoorsModel", name := "clears", desc := "(I)V" } : Jvm.MethodName)) ∈ lw_all := lw_g (lw_at lw_m8 36 rfl) rfl
theorem q1866 : (Jvm.Cond.code ({ cls := "OutwardDoorsModel", name := "clears", desc := "(I)V" } : Jvm.MethodName) prog_20_method_95_code (3 : Nat) (Option.none : Option Jvm.ClassFile.FieldType)) ∈ lw_all := lw_g (lw_at lw_m8 37 rfl) rfl
theorem q1867 : (Jvm.Cond.methodLink "OutwardDoorsModel" (406 : Nat) ({ cls := "OutwardDoorsModel", name := "power", desc := "(I)I" } : Jvm.MethodName)) ∈ lw_all := lw_g (lw_at lw_m8 38 rfl) rfl
theorem q1868 : (Jvm.Cond.privateMethod ({ cls := "OutwardDoorsModel", name := "power", desc := "(I)I" } : Jvm.MethodName)) ∈ lw_tbl := lw_at lw_m8 39 rfl
theorem q1869 : (Jvm.Cond.instanceMethod ({ cls := "OutwardDoorsModel", name := "power", desc := "(I)I" } : Jvm.MethodName)) ∈ lw_all := lw_g (lw_at lw_m8 40 rfl) rfl
theorem q1870 : (Jvm.Cond.code ({ cls := "OutwardDoorsModel", name := "power", desc := "(I)I" } : Jvm.MethodName) prog_20_method_87_code (4 : Nat) (Option.some Jvm.ClassFile.FieldType.int)) ∈ lw_all := lw_g (lw_at lw_m8 41 rfl) rfl
theorem q1871 : (Jvm.Cond.methodLink "OutwardDoorsModel" (431 : Nat) ({ cls := "OutwardDoorsModel", name := "areAtGoals", desc := "(II)Z" } : Jvm.MethodName)) ∈ lw_all := lw_g (lw_at lw_m8 42 rfl) rfl
theorem q1872 : (Jvm.Cond.privateMethod ({ cls := "OutwardDoorsModel", name := "areAtGoals", desc := "(II)Z" } : Jvm.MethodName)) ∈ lw_tbl := lw_at lw_m8 43 rfl
theorem q1873 : (Jvm.Cond.instanceMethod ({ cls := "OutwardDoorsModel", name := "areAtGoals", desc := "(II)Z" } : Jvm.MethodName)) ∈ lw_all := lw_g (lw_at lw_m8 44 rfl) rfl
theorem q1874 : (Jvm.Cond.code ({ cls := "OutwardDoorsModel", name := "areAtGoals", desc := "(II)Z" } : Jvm.MethodName) prog_20_method_91_code (4 : Nat) (Option.some Jvm.ClassFile.FieldType.boolean)) ∈ lw_all := lw_g (lw_at lw_m8 45 rfl) rfl
theorem q1875 : (Jvm.Cond.methodLink "OutwardDoorsModel" (409 : Nat) ({ cls := "OutwardDoorsModel", name := "roomIn", desc := "(II)I" } : Jvm.MethodName)) ∈ lw_all := lw_g (lw_at lw_m8 46 rfl) rfl
theorem q1876 : (Jvm.Cond.privateMethod ({ cls := "OutwardDoorsModel", name := "roomIn", desc := "(II)I" } : Jvm.MethodName)) ∈ lw_tbl := lw_at lw_m8 47 rfl
theorem q1877 : (Jvm.Cond.instanceMethod ({ cls := "OutwardDoorsModel", name := "roomIn", desc := "(II)I" } : Jvm.MethodName)) ∈ lw_all := lw_g (lw_at lw_m8 48 rfl) rfl
theorem q1878 : (Jvm.Cond.code ({ cls := "OutwardDoorsModel", name := "roomIn", desc := "(II)I" } : Jvm.MethodName) prog_20_method_88_code (3 : Nat) (Option.some Jvm.ClassFile.FieldType.int)) ∈ lw_all := lw_g (lw_at lw_m8 49 rfl) rfl
theorem q1879 : (Jvm.Cond.methodLink "OutwardDoorsModel" (422 : Nat) ({ cls := "OutwardDoorsModel", name := "reaches", desc := "(II)V" } : Jvm.MethodName)) ∈ lw_all := lw_g (lw_at lw_m8 50 rfl) rfl
theorem q1880 : (Jvm.Cond.privateMethod ({ cls := "OutwardDoorsModel", name := "reaches", desc := "(II)V" } : Jvm.MethodName)) ∈ lw_tbl := lw_at lw_m8 51 rfl
theorem q1881 : (Jvm.Cond.instanceMethod ({ cls := "OutwardDoorsModel", name := "reaches", desc := "(II)V" } : Jvm.MethodName)) ∈ lw_all := lw_g (lw_at lw_m8 52 rfl) rfl
theorem q1882 : (Jvm.Cond.code ({ cls := "OutwardDoorsModel", name := "reaches", desc := "(II)V" } : Jvm.MethodName) prog_20_method_92_code (3 : Nat) (Option.none : Option Jvm.ClassFile.FieldType)) ∈ lw_all := lw_g (lw_at lw_m8 53 rfl) rfl
theorem q1883 : (Jvm.Cond.methodLink "OutwardDoorsModel" (434 : Nat) ({ cls := "OutwardDoorsModel", name := "goesBack", desc := "(I)V" } : Jvm.MethodName)) ∈ lw_all := lw_g (lw_at lw_m8 54 rfl) rfl
theorem q1884 : (Jvm.Cond.privateMethod ({ cls := "OutwardDoorsModel", name := "goesBack", desc := "(I)V" } : Jvm.MethodName)) ∈ lw_tbl := lw_at lw_m8 55 rfl
theorem q1885 : (Jvm.Cond.instanceMethod ({ cls := "OutwardDoorsModel", name := "goesBack", desc := "(I)V" } : Jvm.MethodName)) ∈ lw_all := lw_g (lw_at lw_m8 56 rfl) rfl
theorem q1886 : (Jvm.Cond.code ({ cls := "OutwardDoorsModel", name := "goesBack", desc := "(I)V" } : Jvm.MethodName) prog_20_method_94_code (3 : Nat) (Option.none : Option Jvm.ClassFile.FieldType)) ∈ lw_all := lw_g (lw_at lw_m8 57 rfl) rfl
theorem q1887 : (Jvm.Cond.methodLink "OutwardDoorsModel" (425 : Nat) ({ cls := "OutwardDoorsModel", name := "reachesBack", desc := "(II)V" } : Jvm.MethodName)) ∈ lw_all := lw_g (lw_at lw_m8 58 rfl) rfl
theorem q1888 : (Jvm.Cond.privateMethod ({ cls := "OutwardDoorsModel", name := "reachesBack", desc := "(II)V" } : Jvm.MethodName)) ∈ lw_tbl := lw_at lw_m8 59 rfl
theorem q1889 : (Jvm.Cond.instanceMethod ({ cls := "OutwardDoorsModel", name := "reachesBack", desc := "(II)V" } : Jvm.MethodName)) ∈ lw_all := lw_g (lw_at lw_m8 60 rfl) rfl
theorem q1890 : (Jvm.Cond.code ({ cls := "OutwardDoorsModel", name := "reachesBack", desc := "(II)V" } : Jvm.MethodName) prog_20_method_93_code (8 : Nat) (Option.none : Option Jvm.ClassFile.FieldType)) ∈ lw_all := lw_g (lw_at lw_m8 61 rfl) rfl
theorem q1891 : (Jvm.Cond.methodLink "OutwardDoorsModel" (418 : Nat) ({ cls := "OutwardDoorsModel", name := "moved", desc := "(III)I" } : Jvm.MethodName)) ∈ lw_all := lw_g (lw_at lw_m8 62 rfl) rfl
theorem q1892 : (Jvm.Cond.privateMethod ({ cls := "OutwardDoorsModel", name := "moved", desc := "(III)I" } : Jvm.MethodName)) ∈ lw_tbl := lw_at lw_m8 63 rfl
theorem q1893 : (Jvm.Cond.instanceMethod ({ cls := "OutwardDoorsModel", name := "moved", desc := "(III)I" } : Jvm.MethodName)) ∈ lw_all := lw_g (lw_at lw_m8 64 rfl) rfl
theorem q1894 : (Jvm.Cond.code ({ cls := "OutwardDoorsModel", name := "moved", desc := "(III)I" } : Jvm.MethodName) prog_20_method_89_code (4 : Nat) (Option.some Jvm.ClassFile.FieldType.int)) ∈ lw_all := lw_g (lw_at lw_m8 65 rfl) rfl
theorem q1895 : (Jvm.Cond.methodLink "OutwardDoorsModel" (443 : Nat) ({ cls := "OutwardDoorsModel", name := "codeNow", desc := "()I" } : Jvm.MethodName)) ∈ lw_all := lw_g (lw_at lw_m8 66 rfl) rfl
theorem q1896 : (Jvm.Cond.privateMethod ({ cls := "OutwardDoorsModel", name := "codeNow", desc := "()I" } : Jvm.MethodName)) ∈ lw_tbl := lw_at lw_m8 67 rfl
theorem q1897 : (Jvm.Cond.instanceMethod ({ cls := "OutwardDoorsModel", name := "codeNow", desc := "()I" } : Jvm.MethodName)) ∈ lw_all := lw_g (lw_at lw_m8 68 rfl) rfl
theorem q1898 : (Jvm.Cond.code ({ cls := "OutwardDoorsModel", name := "codeNow", desc := "()I" } : Jvm.MethodName) prog_20_method_90_code (3 : Nat) (Option.some Jvm.ClassFile.FieldType.int)) ∈ lw_all := lw_g (lw_at lw_m8 69 rfl) rfl
theorem q1900 : (Jvm.Cond.instanceMethod ({ cls := "OutwardDoorsModel", name := "passing", desc := "(III)I" } : Jvm.MethodName)) ∈ lw_all := lw_g (lw_at lw_m8 71 rfl) rfl
theorem q1901 : (Jvm.Cond.selects "OutwardDoorsModel" ({ cls := "OutwardDoorsModel", name := "passing", desc := "(III)I" } : Jvm.MethodName) ({ cls := "OutwardDoorsModel", name := "passing", desc := "(III)I" } : Jvm.MethodName)) ∈ lw_all := lw_g (lw_at lw_m8 72 rfl) rfl
theorem q1902 : (Jvm.Cond.code ({ cls := "OutwardDoorsModel", name := "passing", desc := "(III)I" } : Jvm.MethodName) prog_20_method_100_code (6 : Nat) (Option.some Jvm.ClassFile.FieldType.int)) ∈ lw_all := lw_g (lw_at lw_m8 73 rfl) rfl
theorem q1903 : (Jvm.Cond.methodLink "OutwardDoorsModel" (455 : Nat) ({ cls := "OutwardDoorsModel", name := "nextCode", desc := "(I)I" } : Jvm.MethodName)) ∈ lw_all := lw_g (lw_at lw_m8 74 rfl) rfl
theorem q1904 : (Jvm.Cond.privateMethod ({ cls := "OutwardDoorsModel", name := "nextCode", desc := "(I)I" } : Jvm.MethodName)) ∈ lw_tbl := lw_at lw_m8 75 rfl
theorem q1905 : (Jvm.Cond.instanceMethod ({ cls := "OutwardDoorsModel", name := "nextCode", desc := "(I)I" } : Jvm.MethodName)) ∈ lw_all := lw_g (lw_at lw_m8 76 rfl) rfl
theorem q1906 : (Jvm.Cond.code ({ cls := "OutwardDoorsModel", name := "nextCode", desc := "(I)I" } : Jvm.MethodName) prog_20_method_99_code (7 : Nat) (Option.some Jvm.ClassFile.FieldType.int)) ∈ lw_all := lw_g (lw_at lw_m8 77 rfl) rfl
theorem q1908 : (Jvm.Cond.instanceMethod ({ cls := "OutwardDoorsModel", name := "caught", desc := "(I)I" } : Jvm.MethodName)) ∈ lw_all := lw_g (lw_at lw_m8 79 rfl) rfl
theorem q1909 : (Jvm.Cond.selects "OutwardDoorsModel" ({ cls := "OutwardDoorsModel", name := "caught", desc := "(I)I" } : Jvm.MethodName) ({ cls := "OutwardDoorsModel", name := "caught", desc := "(I)I" } : Jvm.MethodName)) ∈ lw_all := lw_g (lw_at lw_m8 80 rfl) rfl
theorem q1910 : (Jvm.Cond.code ({ cls := "OutwardDoorsModel", name := "caught", desc := "(I)I" } : Jvm.MethodName) prog_20_method_101_code (6 : Nat) (Option.some Jvm.ClassFile.FieldType.int)) ∈ lw_all := lw_g (lw_at lw_m8 81 rfl) rfl
theorem q1912 : (Jvm.Cond.instanceMethod ({ cls := "OutwardDoorsModel", name := "page", desc := "(II)I" } : Jvm.MethodName)) ∈ lw_all := lw_g (lw_at lw_m8 83 rfl) rfl
theorem q1913 : (Jvm.Cond.selects "OutwardDoorsModel" ({ cls := "OutwardDoorsModel", name := "page", desc := "(II)I" } : Jvm.MethodName) ({ cls := "OutwardDoorsModel", name := "page", desc := "(II)I" } : Jvm.MethodName)) ∈ lw_all := lw_g (lw_at lw_m8 84 rfl) rfl
theorem q1914 : (Jvm.Cond.code ({ cls := "OutwardDoorsModel", name := "page", desc := "(II)I" } : Jvm.MethodName) prog_20_method_102_code (7 : Nat) (Option.some Jvm.ClassFile.FieldType.int)) ∈ lw_all := lw_g (lw_at lw_m8 85 rfl) rfl
theorem q1916 : (Jvm.Cond.instanceMethod ({ cls := "OutwardDoorsModel", name := "price", desc := "(I)I" } : Jvm.MethodName)) ∈ lw_all := lw_g (lw_at lw_m8 87 rfl) rfl
theorem q1917 : (Jvm.Cond.selects "OutwardDoorsModel" ({ cls := "OutwardDoorsModel", name := "price", desc := "(I)I" } : Jvm.MethodName) ({ cls := "OutwardDoorsModel", name := "price", desc := "(I)I" } : Jvm.MethodName)) ∈ lw_all := lw_g (lw_at lw_m8 88 rfl) rfl
theorem q1918 : (Jvm.Cond.code ({ cls := "OutwardDoorsModel", name := "price", desc := "(I)I" } : Jvm.MethodName) prog_20_method_104_code (5 : Nat) (Option.some Jvm.ClassFile.FieldType.int)) ∈ lw_all := lw_g (lw_at lw_m8 89 rfl) rfl
theorem q1919 : (Jvm.Cond.methodLink "OutwardDoorsModel" (458 : Nat) ({ cls := "OutwardDoorsModel", name := "paysBack", desc := "(II)Z" } : Jvm.MethodName)) ∈ lw_all := lw_g (lw_at lw_m8 90 rfl) rfl
theorem q1920 : (Jvm.Cond.privateMethod ({ cls := "OutwardDoorsModel", name := "paysBack", desc := "(II)Z" } : Jvm.MethodName)) ∈ lw_tbl := lw_at lw_m8 91 rfl
theorem q1921 : (Jvm.Cond.instanceMethod ({ cls := "OutwardDoorsModel", name := "paysBack", desc := "(II)Z" } : Jvm.MethodName)) ∈ lw_all := lw_g (lw_at lw_m8 92 rfl) rfl
theorem q1922 : (Jvm.Cond.code ({ cls := "OutwardDoorsModel", name := "paysBack", desc := "(II)Z" } : Jvm.MethodName) prog_20_method_103_code (10 : Nat) (Option.some Jvm.ClassFile.FieldType.boolean)) ∈ lw_all := lw_g (lw_at lw_m8 93 rfl) rfl
theorem q1924 : (Jvm.Cond.instanceMethod ({ cls := "OutwardDoorsModel", name := "turned", desc := "(II)I" } : Jvm.MethodName)) ∈ lw_all := lw_g (lw_at lw_m8 95 rfl) rfl
theorem q1925 : (Jvm.Cond.selects "OutwardDoorsModel" ({ cls := "OutwardDoorsModel", name := "turned", desc := "(II)I" } : Jvm.MethodName) ({ cls := "OutwardDoorsModel", name := "turned", desc := "(II)I" } : Jvm.MethodName)) ∈ lw_all := lw_g (lw_at lw_m8 96 rfl) rfl
theorem q1926 : (Jvm.Cond.code ({ cls := "OutwardDoorsModel", name := "turned", desc := "(II)I" } : Jvm.MethodName) prog_20_method_105_code (4 : Nat) (Option.some Jvm.ClassFile.FieldType.int)) ∈ lw_all := lw_g (lw_at lw_m8 97 rfl) rfl
theorem q1928 : (Jvm.Cond.instanceMethod ({ cls := "OutwardDoorsModel", name := "swap", desc := "(I)I" } : Jvm.MethodName)) ∈ lw_all := lw_g (lw_at lw_m8 99 rfl) rfl
theorem q1929 : (Jvm.Cond.selects "OutwardDoorsModel" ({ cls := "OutwardDoorsModel", name := "swap", desc := "(I)I" } : Jvm.MethodName) ({ cls := "OutwardDoorsModel", name := "swap", desc := "(I)I" } : Jvm.MethodName)) ∈ lw_all := lw_g (lw_at lw_m8 100 rfl) rfl
theorem q1930 : (Jvm.Cond.code ({ cls := "OutwardDoorsModel", name := "swap", desc := "(I)I" } : Jvm.MethodName) prog_20_method_107_code (7 : Nat) (Option.some Jvm.ClassFile.FieldType.int)) ∈ lw_all := lw_g (lw_at lw_m8 101 rfl) rfl
theorem q1931 : (Jvm.Cond.methodLink "OutwardDoorsModel" (461 : Nat) ({ cls := "OutwardDoorsModel", name := "isNearerAt", desc := "(II)Z" } : Jvm.MethodName)) ∈ lw_all := lw_g (lw_at lw_m8 102 rfl) rfl
theorem q1932 : (Jvm.Cond.privateMethod ({ cls := "OutwardDoorsModel", name := "isNearerAt", desc := "(II)Z" } : Jvm.MethodName)) ∈ lw_tbl := lw_at lw_m8 103 rfl
theorem q1933 : (Jvm.Cond.instanceMethod ({ cls := "OutwardDoorsModel", name := "isNearerAt", desc := "(II)Z" } : Jvm.MethodName)) ∈ lw_all := lw_g (lw_at lw_m8 104 rfl) rfl
theorem q1934 : (Jvm.Cond.code ({ cls := "OutwardDoorsModel", name := "isNearerAt", desc := "(II)Z" } : Jvm.MethodName) prog_20_method_106_code (3 : Nat) (Option.some Jvm.ClassFile.FieldType.boolean)) ∈ lw_all := lw_g (lw_at lw_m8 105 rfl) rfl
theorem q1936 : (Jvm.Cond.instanceMethod ({ cls := "OutwardDoorsModel", name := "note", desc := "(III)I" } : Jvm.MethodName)) ∈ lw_all := lw_g (lw_at lw_m8 107 rfl) rfl
theorem q1937 : (Jvm.Cond.selects "OutwardDoorsModel" ({ cls := "OutwardDoorsModel", name := "note", desc := "(III)I" } : Jvm.MethodName) ({ cls := "OutwardDoorsModel", name := "note", desc := "(III)I" } : Jvm.MethodName)) ∈ lw_all := lw_g (lw_at lw_m8 108 rfl) rfl
theorem q1938 : (Jvm.Cond.code ({ cls := "OutwardDoorsModel", name := "note", desc := "(III)I" } : Jvm.MethodName) prog_20_method_108_code (5 : Nat) (Option.some Jvm.ClassFile.FieldType.int)) ∈ lw_all := lw_g (lw_at lw_m8 109 rfl) rfl
theorem q1939 : (Jvm.Cond.constantLong "OutwardDoorsModel" (464 : Nat) (60 : Int64)) ∈ lw_all := lw_g (lw_at lw_m8 110 rfl) rfl
theorem q1941 : (Jvm.Cond.instanceMethod ({ cls := "OutwardDoorsModel", name := "ruled", desc := "(I)I" } : Jvm.MethodName)) ∈ lw_all := lw_g (lw_at lw_m8 112 rfl) rfl
theorem q1942 : (Jvm.Cond.selects "OutwardDoorsModel" ({ cls := "OutwardDoorsModel", name := "ruled", desc := "(I)I" } : Jvm.MethodName) ({ cls := "OutwardDoorsModel", name := "ruled", desc := "(I)I" } : Jvm.MethodName)) ∈ lw_all := lw_g (lw_at lw_m8 113 rfl) rfl
theorem q1943 : (Jvm.Cond.code ({ cls := "OutwardDoorsModel", name := "ruled", desc := "(I)I" } : Jvm.MethodName) prog_20_method_112_code (5 : Nat) (Option.some Jvm.ClassFile.FieldType.int)) ∈ lw_all := lw_g (lw_at lw_m8 114 rfl) rfl
theorem q1944 : (Jvm.Cond.methodLink "OutwardDoorsModel" (472 : Nat) ({ cls := "OutwardDoorsModel", name := "gathersRules", desc := "(I)V" } : Jvm.MethodName)) ∈ lw_all := lw_g (lw_at lw_m8 115 rfl) rfl
theorem q1945 : (Jvm.Cond.privateMethod ({ cls := "OutwardDoorsModel", name := "gathersRules", desc := "(I)V" } : Jvm.MethodName)) ∈ lw_tbl := lw_at lw_m8 116 rfl
theorem q1946 : (Jvm.Cond.instanceMethod ({ cls := "OutwardDoorsModel", name := "gathersRules", desc := "(I)V" } : Jvm.MethodName)) ∈ lw_all := lw_g (lw_at lw_m8 117 rfl) rfl
theorem q1947 : (Jvm.Cond.code ({ cls := "OutwardDoorsModel", name := "gathersRules", desc := "(I)V" } : Jvm.MethodName) prog_20_method_111_code (6 : Nat) (Option.none : Option Jvm.ClassFile.FieldType)) ∈ lw_all := lw_g (lw_at lw_m8 118 rfl) rfl
theorem q1948 : (Jvm.Cond.methodLink "OutwardDoorsModel" (466 : Nat) ({ cls := "OutwardDoorsModel", name := "begins", desc := "()V" } : Jvm.MethodName)) ∈ lw_all := lw_g (lw_at lw_m8 119 rfl) rfl
theorem q1949 : (Jvm.Cond.privateMethod ({ cls := "OutwardDoorsModel", name := "begins", desc := "()V" } : Jvm.MethodName)) ∈ lw_tbl := lw_at lw_m8 120 rfl
theorem q1950 : (Jvm.Cond.instanceMethod ({ cls := "OutwardDoorsModel", name := "begins", desc := "()V" } : Jvm.MethodName)) ∈ lw_all := lw_g (lw_at lw_m8 121 rfl) rfl
theorem q1951 : (Jvm.Cond.code ({ cls := "OutwardDoorsModel", name := "begins", desc := "()V" } : Jvm.MethodName) prog_20_method_109_code (3 : Nat) (Option.none : Option Jvm.ClassFile.FieldType)) ∈ lw_all := lw_g (lw_at lw_m8 122 rfl) rfl
theorem q1952 : (Jvm.Cond.methodLink "OutwardDoorsModel" (469 : Nat) ({ cls := "OutwardDoorsModel", name := "areNotesSo", desc := "()Z" } : Jvm.MethodName)) ∈ lw_all := lw_g (lw_at lw_m8 123 rfl) rfl
theorem q1953 : (Jvm.Cond.privateMethod ({ cls := "OutwardDoorsModel", name := "areNotesSo", desc := "()Z" } : Jvm.MethodName)) ∈ lw_tbl := lw_at lw_m8 124 rfl
theorem q1954 : (Jvm.Cond.instanceMethod ({ cls := "OutwardDoorsModel", name := "areNotesSo", desc := "()Z" } : Jvm.MethodName)) ∈ lw_all := lw_g (lw_at lw_m8 125 rfl) rfl
theorem q1955 : (Jvm.Cond.code ({ cls := "OutwardDoorsModel", name := "areNotesSo", desc := "()Z" } : Jvm.MethodName) prog_20_method_110_code (3 : Nat) (Option.some Jvm.ClassFile.FieldType.boolean)) ∈ lw_all := lw_g (lw_at lw_m8 126 rfl) rfl
theorem q1957 : (Jvm.Cond.instanceMethod ({ cls := "OutwardDoorsModel", name := "look", desc := "(II)I" } : Jvm.MethodName)) ∈ lw_all := lw_g (lw_at lw_m8 128 rfl) rfl
theorem q1958 : (Jvm.Cond.selects "OutwardDoorsModel" ({ cls := "OutwardDoorsModel", name := "look", desc := "(II)I" } : Jvm.MethodName) ({ cls := "OutwardDoorsModel", name := "look", desc := "(II)I" } : Jvm.MethodName)) ∈ lw_all := lw_g (lw_at lw_m8 129 rfl) rfl
theorem q1959 : (Jvm.Cond.code ({ cls := "OutwardDoorsModel", name := "look", desc := "(II)I" } : Jvm.MethodName) prog_20_method_114_code (7 : Nat) (Option.some Jvm.ClassFile.FieldType.int)) ∈ lw_all := lw_g (lw_at lw_m8 130 rfl) rfl
theorem q1960 : (Jvm.Cond.methodLink "OutwardDoorsModel" (475 : Nat) ({ cls := "OutwardDoorsModel", name := "alikeOf", desc := "(I)I" } : Jvm.MethodName)) ∈ lw_all := lw_g (lw_at lw_m8 131 rfl) rfl
theorem q1961 : (Jvm.Cond.privateMethod ({ cls := "OutwardDoorsModel", name := "alikeOf", desc := "(I)I" } : Jvm.MethodName)) ∈ lw_tbl := lw_at lw_m8 132 rfl
theorem q1962 : (Jvm.Cond.instanceMethod ({ cls := "OutwardDoorsModel", name := "alikeOf", desc := "(I)I" } : Jvm.MethodName)) ∈ lw_all := lw_g (lw_at lw_m8 133 rfl) rfl
theorem q1963 : (Jvm.Cond.code ({ cls := "OutwardDoorsModel", name := "alikeOf", desc := "(I)I" } : Jvm.MethodName) prog_20_method_113_code (6 : Nat) (Option.some Jvm.ClassFile.FieldType.int)) ∈ lw_all := lw_g (lw_at lw_m8 134 rfl) rfl
theorem q1965 : (Jvm.Cond.instanceMethod ({ cls := "OutwardDoorsModel", name := "seed", desc := "(I)I" } : Jvm.MethodName)) ∈ lw_all := lw_g (lw_at lw_m8 136 rfl) rfl
theorem q1966 : (Jvm.Cond.selects "OutwardDoorsModel" ({ cls := "OutwardDoorsModel", name := "seed", desc := "(I)I" } : Jvm.MethodName) ({ cls := "OutwardDoorsModel", name := "seed", desc := "(I)I" } : Jvm.MethodName)) ∈ lw_all := lw_g (lw_at lw_m8 137 rfl) rfl
theorem q1967 : (Jvm.Cond.code ({ cls := "OutwardDoorsModel", name := "seed", desc := "(I)I" } : Jvm.MethodName) prog_20_method_115_code (3 : Nat) (Option.some Jvm.ClassFile.FieldType.int)) ∈ lw_all := lw_g (lw_at lw_m8 138 rfl) rfl
theorem q1969 : (Jvm.Cond.instanceMethod ({ cls := "OutwardDoorsModel", name := "days", desc := "(III)I" } : Jvm.MethodName)) ∈ lw_all := lw_g (lw_at lw_m8 140 rfl) rfl
theorem q1970 : (Jvm.Cond.selects "OutwardDoorsModel" ({ cls := "OutwardDoorsModel", name := "days", desc := "(III)I" } : Jvm.MethodName) ({ cls := "OutwardDoorsModel", name := "days", desc := "(III)I" } : Jvm.MethodName)) ∈ lw_all := lw_g (lw_at lw_m8 141 rfl) rfl
theorem q1971 : (Jvm.Cond.code ({ cls := "OutwardDoorsModel", name := "days", desc := "(III)I" } : Jvm.MethodName) prog_20_method_119_code (8 : Nat) (Option.some Jvm.ClassFile.FieldType.int)) ∈ lw_all := lw_g (lw_at lw_m8 142 rfl) rfl
theorem q1972 : (Jvm.Cond.constantLong "OutwardDoorsModel" (496 : Nat) (10 : Int64)) ∈ lw_all := lw_g (lw_at lw_m8 143 rfl) rfl
theorem q1973 : (Jvm.Cond.methodLink "OutwardDoorsModel" (498 : Nat) ({ cls := "OutwardDoorsModel", name := "countOf", desc := "(I)I" } : Jvm.MethodName)) ∈ lw_all := lw_g (lw_at lw_m8 144 rfl) rfl
theorem q1974 : (Jvm.Cond.privateMethod ({ cls := "OutwardDoorsModel", name := "countOf", desc := "(I)I" } : Jvm.MethodName)) ∈ lw_tbl := lw_at lw_m8 145 rfl
theorem q1975 : (Jvm.Cond.instanceMethod ({ cls := "OutwardDoorsModel", name := "countOf", desc := "(I)I" } : Jvm.MethodName)) ∈ lw_all := lw_g (lw_at lw_m8 146 rfl) rfl
theorem q1976 : (Jvm.Cond.code ({ cls := "OutwardDoorsModel", name := "countOf", desc := "(I)I" } : Jvm.MethodName) prog_20_method_118_code (4 : Nat) (Option.some Jvm.ClassFile.FieldType.int)) ∈ lw_all := lw_g (lw_at lw_m8 147 rfl) rfl
theorem q1977 : (Jvm.Cond.methodLink "OutwardDoorsModel" (501 : Nat) ({ cls := "OutwardDoorsModel", name := "aimsDrawn", desc := "()V" } : Jvm.MethodName)) ∈ lw_all := lw_g (lw_at lw_m8 148 rfl) rfl
theorem q1978 : (Jvm.Cond.privateMethod ({ cls := "OutwardDoorsModel", name := "aimsDrawn", desc := "()V" } : Jvm.MethodName)) ∈ lw_tbl := lw_at lw_m8 149 rfl
theorem q1979 : (Jvm.Cond.instanceMethod ({ cls := "OutwardDoorsModel", name := "aimsDrawn", desc := "()V" } : Jvm.MethodName)) ∈ lw_all := lw_g (lw_at lw_m8 150 rfl) rfl
theorem q1980 : (Jvm.Cond.code ({ cls := "OutwardDoorsModel", name := "aimsDrawn", desc := "()V" } : Jvm.MethodName) prog_20_method_117_code (2 : Nat) (Option.none : Option Jvm.ClassFile.FieldType)) ∈ lw_all := lw_g (lw_at lw_m8 151 rfl) rfl
theorem q1981 : (Jvm.Cond.methodLink "OutwardDoorsModel" (493 : Nat) ({ cls := "OutwardDoorsModel", name := "draw", desc := "(I)I" } : Jvm.MethodName)) ∈ lw_all := lw_g (lw_at lw_m8 152 rfl) rfl
theorem q1982 : (Jvm.Cond.privateMethod ({ cls := "OutwardDoorsModel", name := "draw", desc := "(I)I" } : Jvm.MethodName)) ∈ lw_tbl := lw_at lw_m8 153 rfl
theorem q1983 : (Jvm.Cond.instanceMethod ({ cls := "OutwardDoorsModel", name := "draw", desc := "(I)I" } : Jvm.MethodName)) ∈ lw_all := lw_g (lw_at lw_m8 154 rfl) rfl
theorem q1984 : (Jvm.Cond.code ({ cls := "OutwardDoorsModel", name := "draw", desc := "(I)I" } : Jvm.MethodName) prog_20_method_116_code (2 : Nat) (Option.some Jvm.ClassFile.FieldType.int)) ∈ lw_all := lw_g (lw_at lw_m8 155 rfl) rfl
theorem q1985 : (Jvm.Cond.constantLong "OutwardDoorsModel" (485 : Nat) (1103515245 : Int64)) ∈ lw_all := lw_g (lw_at lw_m8 156 rfl) rfl
theorem q1986 : (Jvm.Cond.constantLong "OutwardDoorsModel" (487 : Nat) (12345 : Int64)) ∈ lw_all := lw_g (lw_at lw_m8 157 rfl) rfl
theorem q1987 : (Jvm.Cond.constantLong "OutwardDoorsModel" (489 : Nat) (2147483648 : Int64)) ∈ lw_all := lw_g (lw_at lw_m8 158 rfl) rfl
theorem q1988 : (Jvm.Cond.constantLong "OutwardDoorsModel" (491 : Nat) (65536 : Int64)) ∈ lw_all := lw_g (lw_at lw_m8 159 rfl) rfl
theorem q1990 : (Jvm.Cond.instanceMethod ({ cls := "OutwardDoorsModel", name := "count", desc := "(I)I" } : Jvm.MethodName)) ∈ lw_all := lw_g (lw_at lw_m8 161 rfl) rfl
theorem q1991 : (Jvm.Cond.selects "OutwardDoorsModel" ({ cls := "OutwardDoorsModel", name := "count", desc := "(I)I" } : Jvm.MethodName) ({ cls := "OutwardDoorsModel", name := "count", desc := "(I)I" } : Jvm.MethodName)) ∈ lw_all := lw_g (lw_at lw_m8 162 rfl) rfl
theorem q1992 : (Jvm.Cond.code ({ cls := "OutwardDoorsModel", name := "count", desc := "(I)I" } : Jvm.MethodName) prog_20_method_120_code (2 : Nat) (Option.some Jvm.ClassFile.FieldType.int)) ∈ lw_all := lw_g (lw_at lw_m8 163 rfl) rfl
theorem q1994 : (Jvm.Cond.instanceMethod ({ cls := "OutwardDoorsModel", name := "image", desc := "(I)I" } : Jvm.MethodName)) ∈ lw_all := lw_g (lw_at lw_m8 165 rfl) rfl
theorem q1995 : (Jvm.Cond.selects "OutwardDoorsModel" ({ cls := "OutwardDoorsModel", name := "image", desc := "(I)I" } : Jvm.MethodName) ({ cls := "OutwardDoorsModel", name := "image", desc := "(I)I" } : Jvm.MethodName)) ∈ lw_all := lw_g (lw_at lw_m8 166 rfl) rfl
theorem q1996 : (Jvm.Cond.code ({ cls := "OutwardDoorsModel", name := "image", desc := "(I)I" } : Jvm.MethodName) prog_20_method_121_code (3 : Nat) (Option.some Jvm.ClassFile.FieldType.int)) ∈ lw_all := lw_g (lw_at lw_m8 167 rfl) rfl
theorem q1998 : (Jvm.Cond.instanceMethod ({ cls := "OutwardDoorsModel", name := "back", desc := "(I)I" } : Jvm.MethodName)) ∈ lw_all := lw_g (lw_at lw_m8 169 rfl) rfl
theorem q1999 : (Jvm.Cond.selects "OutwardDoorsModel" ({ cls := "OutwardDoorsModel", name := "back", desc := "(I)I" } : Jvm.MethodName) ({ cls := "OutwardDoorsModel", name := "back", desc := "(I)I" } : Jvm.MethodName)) ∈ lw_all := lw_g (lw_at lw_m8 170 rfl) rfl
theorem q2000 : (Jvm.Cond.code ({ cls := "OutwardDoorsModel", name := "back", desc := "(I)I" } : Jvm.MethodName) prog_20_method_122_code (3 : Nat) (Option.some Jvm.ClassFile.FieldType.int)) ∈ lw_all := lw_g (lw_at lw_m8 171 rfl) rfl
theorem q2010 : (Jvm.Cond.castable "OutwardDoorsModel" "java/lang/Object") ∈ lw_tbl := lw_at lw_m8 181 rfl
theorem in_X4 : ∀ w ∈ wsX40, w ∈ lw_all := lw_in wsX40 [1402, 1404, 1406, 1408, 1410, 1412, 1414, 1416, 1418, 1420, 1422, 1424, 1426, 1428, 1430, 1432, 1434, 1436, 1438, 1440, 1442, 1444, 1446, 1448, 1450, 1452, 1454, 1456, 1458, 1460, 1462, 1464, 1466, 1468, 1470, 1472, 1474, 1476, 1478, 1480, 1482, 1484, 1486, 1488] (by decide +kernel) (by decide +kernel)
