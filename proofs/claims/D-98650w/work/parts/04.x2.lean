set_option maxRecDepth 100000
abbrev cX0_ahead : ByteArray := prog_1_method_39_code
def yX0_ahead : MethodName := ⟨RX0, "ahead", "(II)I"⟩
def dkwX0_ahead_2 : List UInt8 := [172]
abbrev dktX0_ahead_2 : List UInt8 := dkwX0_ahead_2 ++ []
def dkwX0_ahead_1 : List UInt8 := [180, 0, 23, 42, 180, 0, 19, 182, 1, 53, 42, 28, 182, 1, 69, 42, 180, 0, 23, 180, 0, 202, 27, 46]
abbrev dktX0_ahead_1 : List UInt8 := dkwX0_ahead_1 ++ dktX0_ahead_2
def dkwX0_ahead_0 : List UInt8 := [42, 27, 182, 0, 216, 153, 0, 15, 28, 133, 9, 20, 1, 67, 184, 0, 129, 154, 0, 5, 2, 172, 42]
abbrev dktX0_ahead_0 : List UInt8 := dkwX0_ahead_0 ++ dktX0_ahead_1
theorem dksX0_ahead_0 : cX0_ahead.data.toList.drop 0 = dktX0_ahead_0 := by decide +kernel
theorem dksX0_ahead_1 : cX0_ahead.data.toList.drop 23 = dktX0_ahead_1 := dk_seg dksX0_ahead_0 23 rfl rfl
theorem dksX0_ahead_2 : cX0_ahead.data.toList.drop 47 = dktX0_ahead_2 := dk_seg dksX0_ahead_1 24 rfl rfl
theorem dX0_ahead_0 : decode cX0_ahead 0 = .ok (.aload_n 0, 1) := dk_42 (dk_at dksX0_ahead_0 0 rfl rfl)
theorem dX0_ahead_1 : decode cX0_ahead 1 = .ok (.iload_n 1, 1) := dk_27 (dk_at dksX0_ahead_0 1 rfl rfl)
theorem dX0_ahead_2 : decode cX0_ahead 2 = .ok (.invokevirtual 216, 3) := dk_182 0 216 (dk_at dksX0_ahead_0 2 rfl rfl)
theorem dX0_ahead_5 : decode cX0_ahead 5 = .ok (.ifCond .eq 15, 3) := dk_153 0 15 (dk_at dksX0_ahead_0 5 rfl rfl)
theorem dX0_ahead_8 : decode cX0_ahead 8 = .ok (.iload_n 2, 1) := dk_28 (dk_at dksX0_ahead_0 8 rfl rfl)
theorem dX0_ahead_9 : decode cX0_ahead 9 = .ok (.i2l, 1) := dk_133 (dk_at dksX0_ahead_0 9 rfl rfl)
theorem dX0_ahead_10 : decode cX0_ahead 10 = .ok (.lconst 0, 1) := dk_9 (dk_at dksX0_ahead_0 10 rfl rfl)
theorem dX0_ahead_11 : decode cX0_ahead 11 = .ok (.ldc2_w 323, 3) := dk_20 1 67 (dk_at dksX0_ahead_0 11 rfl rfl)
theorem dX0_ahead_14 : decode cX0_ahead 14 = .ok (.invokestatic 129, 3) := dk_184 0 129 (dk_at dksX0_ahead_0 14 rfl rfl)
theorem dX0_ahead_17 : decode cX0_ahead 17 = .ok (.ifCond .ne 5, 3) := dk_154 0 5 (dk_at dksX0_ahead_0 17 rfl rfl)
theorem dX0_ahead_20 : decode cX0_ahead 20 = .ok (.iconst (-1), 1) := dk_2 (dk_at dksX0_ahead_0 20 rfl rfl)
theorem dX0_ahead_21 : decode cX0_ahead 21 = .ok (.ireturn, 1) := dk_172 (dk_at dksX0_ahead_0 21 rfl rfl)
theorem dX0_ahead_22 : decode cX0_ahead 22 = .ok (.aload_n 0, 1) := dk_42 (dk_at dksX0_ahead_0 22 rfl rfl)
theorem dX0_ahead_23 : decode cX0_ahead 23 = .ok (.getfield 23, 3) := dk_180 0 23 (dk_at dksX0_ahead_1 0 rfl rfl)
theorem dX0_ahead_26 : decode cX0_ahead 26 = .ok (.aload_n 0, 1) := dk_42 (dk_at dksX0_ahead_1 3 rfl rfl)
theorem dX0_ahead_27 : decode cX0_ahead 27 = .ok (.getfield 19, 3) := dk_180 0 19 (dk_at dksX0_ahead_1 4 rfl rfl)
theorem dX0_ahead_30 : decode cX0_ahead 30 = .ok (.invokevirtual 309, 3) := dk_182 1 53 (dk_at dksX0_ahead_1 7 rfl rfl)
theorem dX0_ahead_33 : decode cX0_ahead 33 = .ok (.aload_n 0, 1) := dk_42 (dk_at dksX0_ahead_1 10 rfl rfl)
theorem dX0_ahead_34 : decode cX0_ahead 34 = .ok (.iload_n 2, 1) := dk_28 (dk_at dksX0_ahead_1 11 rfl rfl)
theorem dX0_ahead_35 : decode cX0_ahead 35 = .ok (.invokevirtual 325, 3) := dk_182 1 69 (dk_at dksX0_ahead_1 12 rfl rfl)
theorem dX0_ahead_38 : decode cX0_ahead 38 = .ok (.aload_n 0, 1) := dk_42 (dk_at dksX0_ahead_1 15 rfl rfl)
theorem dX0_ahead_39 : decode cX0_ahead 39 = .ok (.getfield 23, 3) := dk_180 0 23 (dk_at dksX0_ahead_1 16 rfl rfl)
theorem dX0_ahead_42 : decode cX0_ahead 42 = .ok (.getfield 202, 3) := dk_180 0 202 (dk_at dksX0_ahead_1 19 rfl rfl)
theorem dX0_ahead_45 : decode cX0_ahead 45 = .ok (.iload_n 1, 1) := dk_27 (dk_at dksX0_ahead_1 22 rfl rfl)
theorem dX0_ahead_46 : decode cX0_ahead 46 = .ok (.iaload, 1) := dk_46 (dk_at dksX0_ahead_1 23 rfl rfl)
theorem dX0_ahead_47 : decode cX0_ahead 47 = .ok (.ireturn, 1) := dk_172 (dk_at dksX0_ahead_2 0 rfl rfl)
abbrev cX0_goesTill : ByteArray := prog_1_method_38_code
def yX0_goesTill : MethodName := ⟨RX0, "goesTill", "(I)V"⟩
def dkwX0_goesTill_0 : List UInt8 := [3, 61, 28, 27, 162, 0, 18, 42, 42, 180, 0, 23, 182, 1, 59, 87, 132, 2, 1, 167, 255, 239, 177]
abbrev dktX0_goesTill_0 : List UInt8 := dkwX0_goesTill_0 ++ []
theorem dksX0_goesTill_0 : cX0_goesTill.data.toList.drop 0 = dktX0_goesTill_0 := by decide +kernel
theorem dX0_goesTill_0 : decode cX0_goesTill 0 = .ok (.iconst 0, 1) := dk_3 (dk_at dksX0_goesTill_0 0 rfl rfl)
theorem dX0_goesTill_1 : decode cX0_goesTill 1 = .ok (.istore_n 2, 1) := dk_61 (dk_at dksX0_goesTill_0 1 rfl rfl)
theorem dX0_goesTill_2 : decode cX0_goesTill 2 = .ok (.iload_n 2, 1) := dk_28 (dk_at dksX0_goesTill_0 2 rfl rfl)
theorem dX0_goesTill_3 : decode cX0_goesTill 3 = .ok (.iload_n 1, 1) := dk_27 (dk_at dksX0_goesTill_0 3 rfl rfl)
theorem dX0_goesTill_4 : decode cX0_goesTill 4 = .ok (.if_icmp .ge 18, 3) := dk_162 0 18 (dk_at dksX0_goesTill_0 4 rfl rfl)
theorem dX0_goesTill_7 : decode cX0_goesTill 7 = .ok (.aload_n 0, 1) := dk_42 (dk_at dksX0_goesTill_0 7 rfl rfl)
theorem dX0_goesTill_8 : decode cX0_goesTill 8 = .ok (.aload_n 0, 1) := dk_42 (dk_at dksX0_goesTill_0 8 rfl rfl)
theorem dX0_goesTill_9 : decode cX0_goesTill 9 = .ok (.getfield 23, 3) := dk_180 0 23 (dk_at dksX0_goesTill_0 9 rfl rfl)
theorem dX0_goesTill_12 : decode cX0_goesTill 12 = .ok (.invokevirtual 315, 3) := dk_182 1 59 (dk_at dksX0_goesTill_0 12 rfl rfl)
theorem dX0_goesTill_15 : decode cX0_goesTill 15 = .ok (.pop, 1) := dk_87 (dk_at dksX0_goesTill_0 15 rfl rfl)
theorem dX0_goesTill_16 : decode cX0_goesTill 16 = .ok (.iinc 2 1, 3) := dk_132 2 1 (dk_at dksX0_goesTill_0 16 rfl rfl)
theorem dX0_goesTill_19 : decode cX0_goesTill 19 = .ok (.goto (-17), 3) := dk_167 255 239 (dk_at dksX0_goesTill_0 19 rfl rfl)
theorem dX0_goesTill_22 : decode cX0_goesTill 22 = .ok (.return_, 1) := dk_177 (dk_at dksX0_goesTill_0 22 rfl rfl)
abbrev cX0_comes : ByteArray := prog_1_method_40_code
def yX0_comes : MethodName := ⟨RX0, "comes", "(I)I"⟩
def dkwX0_comes_3 : List UInt8 := [167, 255, 208, 16, 254, 172]
abbrev dktX0_comes_3 : List UInt8 := dkwX0_comes_3 ++ []
def dkwX0_comes_2 : List UInt8 := [160, 0, 11, 42, 180, 0, 23, 180, 0, 195, 172, 42, 42, 180, 0, 23, 182, 1, 59, 87, 132, 2, 1]
abbrev dktX0_comes_2 : List UInt8 := dkwX0_comes_2 ++ dktX0_comes_3
def dkwX0_comes_1 : List UInt8 := [17, 0, 200, 163, 0, 47, 42, 180, 0, 23, 180, 0, 202, 27, 46, 42, 180, 0, 23, 180, 0, 192, 27, 46]
abbrev dktX0_comes_1 : List UInt8 := dkwX0_comes_1 ++ dktX0_comes_2
def dkwX0_comes_0 : List UInt8 := [42, 27, 182, 0, 216, 154, 0, 5, 2, 172, 42, 180, 0, 23, 42, 180, 0, 19, 182, 1, 53, 3, 61, 28]
abbrev dktX0_comes_0 : List UInt8 := dkwX0_comes_0 ++ dktX0_comes_1
theorem dksX0_comes_0 : cX0_comes.data.toList.drop 0 = dktX0_comes_0 := by decide +kernel
theorem dksX0_comes_1 : cX0_comes.data.toList.drop 24 = dktX0_comes_1 := dk_seg dksX0_comes_0 24 rfl rfl
theorem dksX0_comes_2 : cX0_comes.data.toList.drop 48 = dktX0_comes_2 := dk_seg dksX0_comes_1 24 rfl rfl
theorem dksX0_comes_3 : cX0_comes.data.toList.drop 71 = dktX0_comes_3 := dk_seg dksX0_comes_2 23 rfl rfl
theorem dX0_comes_0 : decode cX0_comes 0 = .ok (.aload_n 0, 1) := dk_42 (dk_at dksX0_comes_0 0 rfl rfl)
theorem dX0_comes_1 : decode cX0_comes 1 = .ok (.iload_n 1, 1) := dk_27 (dk_at dksX0_comes_0 1 rfl rfl)
theorem dX0_comes_2 : decode cX0_comes 2 = .ok (.invokevirtual 216, 3) := dk_182 0 216 (dk_at dksX0_comes_0 2 rfl rfl)
theorem dX0_comes_5 : decode cX0_comes 5 = .ok (.ifCond .ne 5, 3) := dk_154 0 5 (dk_at dksX0_comes_0 5 rfl rfl)
theorem dX0_comes_8 : decode cX0_comes 8 = .ok (.iconst (-1), 1) := dk_2 (dk_at dksX0_comes_0 8 rfl rfl)
theorem dX0_comes_9 : decode cX0_comes 9 = .ok (.ireturn, 1) := dk_172 (dk_at dksX0_comes_0 9 rfl rfl)
theorem dX0_comes_10 : decode cX0_comes 10 = .ok (.aload_n 0, 1) := dk_42 (dk_at dksX0_comes_0 10 rfl rfl)
theorem dX0_comes_11 : decode cX0_comes 11 = .ok (.getfield 23, 3) := dk_180 0 23 (dk_at dksX0_comes_0 11 rfl rfl)
theorem dX0_comes_14 : decode cX0_comes 14 = .ok (.aload_n 0, 1) := dk_42 (dk_at dksX0_comes_0 14 rfl rfl)
theorem dX0_comes_15 : decode cX0_comes 15 = .ok (.getfield 19, 3) := dk_180 0 19 (dk_at dksX0_comes_0 15 rfl rfl)
theorem dX0_comes_18 : decode cX0_comes 18 = .ok (.invokevirtual 309, 3) := dk_182 1 53 (dk_at dksX0_comes_0 18 rfl rfl)
theorem dX0_comes_21 : decode cX0_comes 21 = .ok (.iconst 0, 1) := dk_3 (dk_at dksX0_comes_0 21 rfl rfl)
theorem dX0_comes_22 : decode cX0_comes 22 = .ok (.istore_n 2, 1) := dk_61 (dk_at dksX0_comes_0 22 rfl rfl)
theorem dX0_comes_23 : decode cX0_comes 23 = .ok (.iload_n 2, 1) := dk_28 (dk_at dksX0_comes_0 23 rfl rfl)
theorem dX0_comes_24 : decode cX0_comes 24 = .ok (.sipush 200, 3) := dk_17 0 200 (dk_at dksX0_comes_1 0 rfl rfl)
theorem dX0_comes_27 : decode cX0_comes 27 = .ok (.if_icmp .gt 47, 3) := dk_163 0 47 (dk_at dksX0_comes_1 3 rfl rfl)
theorem dX0_comes_30 : decode cX0_comes 30 = .ok (.aload_n 0, 1) := dk_42 (dk_at dksX0_comes_1 6 rfl rfl)
theorem dX0_comes_31 : decode cX0_comes 31 = .ok (.getfield 23, 3) := dk_180 0 23 (dk_at dksX0_comes_1 7 rfl rfl)
theorem dX0_comes_34 : decode cX0_comes 34 = .ok (.getfield 202, 3) := dk_180 0 202 (dk_at dksX0_comes_1 10 rfl rfl)
theorem dX0_comes_37 : decode cX0_comes 37 = .ok (.iload_n 1, 1) := dk_27 (dk_at dksX0_comes_1 13 rfl rfl)
theorem dX0_comes_38 : decode cX0_comes 38 = .ok (.iaload, 1) := dk_46 (dk_at dksX0_comes_1 14 rfl rfl)
theorem dX0_comes_39 : decode cX0_comes 39 = .ok (.aload_n 0, 1) := dk_42 (dk_at dksX0_comes_1 15 rfl rfl)
theorem dX0_comes_40 : decode cX0_comes 40 = .ok (.getfield 23, 3) := dk_180 0 23 (dk_at dksX0_comes_1 16 rfl rfl)
theorem dX0_comes_43 : decode cX0_comes 43 = .ok (.getfield 192, 3) := dk_180 0 192 (dk_at dksX0_comes_1 19 rfl rfl)
theorem dX0_comes_46 : decode cX0_comes 46 = .ok (.iload_n 1, 1) := dk_27 (dk_at dksX0_comes_1 22 rfl rfl)
theorem dX0_comes_47 : decode cX0_comes 47 = .ok (.iaload, 1) := dk_46 (dk_at dksX0_comes_1 23 rfl rfl)
theorem dX0_comes_48 : decode cX0_comes 48 = .ok (.if_icmp .ne 11, 3) := dk_160 0 11 (dk_at dksX0_comes_2 0 rfl rfl)
theorem dX0_comes_51 : decode cX0_comes 51 = .ok (.aload_n 0, 1) := dk_42 (dk_at dksX0_comes_2 3 rfl rfl)
theorem dX0_comes_52 : decode cX0_comes 52 = .ok (.getfield 23, 3) := dk_180 0 23 (dk_at dksX0_comes_2 4 rfl rfl)
theorem dX0_comes_55 : decode cX0_comes 55 = .ok (.getfield 195, 3) := dk_180 0 195 (dk_at dksX0_comes_2 7 rfl rfl)
theorem dX0_comes_58 : decode cX0_comes 58 = .ok (.ireturn, 1) := dk_172 (dk_at dksX0_comes_2 10 rfl rfl)
theorem dX0_comes_59 : decode cX0_comes 59 = .ok (.aload_n 0, 1) := dk_42 (dk_at dksX0_comes_2 11 rfl rfl)
theorem dX0_comes_60 : decode cX0_comes 60 = .ok (.aload_n 0, 1) := dk_42 (dk_at dksX0_comes_2 12 rfl rfl)
theorem dX0_comes_61 : decode cX0_comes 61 = .ok (.getfield 23, 3) := dk_180 0 23 (dk_at dksX0_comes_2 13 rfl rfl)
theorem dX0_comes_64 : decode cX0_comes 64 = .ok (.invokevirtual 315, 3) := dk_182 1 59 (dk_at dksX0_comes_2 16 rfl rfl)
theorem dX0_comes_67 : decode cX0_comes 67 = .ok (.pop, 1) := dk_87 (dk_at dksX0_comes_2 19 rfl rfl)
theorem dX0_comes_68 : decode cX0_comes 68 = .ok (.iinc 2 1, 3) := dk_132 2 1 (dk_at dksX0_comes_2 20 rfl rfl)
theorem dX0_comes_71 : decode cX0_comes 71 = .ok (.goto (-48), 3) := dk_167 255 208 (dk_at dksX0_comes_3 0 rfl rfl)
theorem dX0_comes_74 : decode cX0_comes 74 = .ok (.bipush (-2), 2) := dk_16 254 (dk_at dksX0_comes_3 3 rfl rfl)
theorem dX0_comes_76 : decode cX0_comes 76 = .ok (.ireturn, 1) := dk_172 (dk_at dksX0_comes_3 5 rfl rfl)
abbrev cX0_fewest : ByteArray := prog_1_method_50_code
def yX0_fewest : MethodName := ⟨RX0, "fewest", "(I)I"⟩
def dkwX0_fewest_0 : List UInt8 := [42, 27, 182, 1, 99, 153, 0, 11, 42, 27, 182, 1, 102, 167, 0, 4, 2, 172]
abbrev dktX0_fewest_0 : List UInt8 := dkwX0_fewest_0 ++ []
theorem dksX0_fewest_0 : cX0_fewest.data.toList.drop 0 = dktX0_fewest_0 := by decide +kernel
theorem dX0_fewest_0 : decode cX0_fewest 0 = .ok (.aload_n 0, 1) := dk_42 (dk_at dksX0_fewest_0 0 rfl rfl)
theorem dX0_fewest_1 : decode cX0_fewest 1 = .ok (.iload_n 1, 1) := dk_27 (dk_at dksX0_fewest_0 1 rfl rfl)
theorem dX0_fewest_2 : decode cX0_fewest 2 = .ok (.invokevirtual 355, 3) := dk_182 1 99 (dk_at dksX0_fewest_0 2 rfl rfl)
theorem dX0_fewest_5 : decode cX0_fewest 5 = .ok (.ifCond .eq 11, 3) := dk_153 0 11 (dk_at dksX0_fewest_0 5 rfl rfl)
theorem dX0_fewest_8 : decode cX0_fewest 8 = .ok (.aload_n 0, 1) := dk_42 (dk_at dksX0_fewest_0 8 rfl rfl)
theorem dX0_fewest_9 : decode cX0_fewest 9 = .ok (.iload_n 1, 1) := dk_27 (dk_at dksX0_fewest_0 9 rfl rfl)
theorem dX0_fewest_10 : decode cX0_fewest 10 = .ok (.invokevirtual 358, 3) := dk_182 1 102 (dk_at dksX0_fewest_0 10 rfl rfl)
theorem dX0_fewest_13 : decode cX0_fewest 13 = .ok (.goto 4, 3) := dk_167 0 4 (dk_at dksX0_fewest_0 13 rfl rfl)
theorem dX0_fewest_16 : decode cX0_fewest 16 = .ok (.iconst (-1), 1) := dk_2 (dk_at dksX0_fewest_0 16 rfl rfl)
theorem dX0_fewest_17 : decode cX0_fewest 17 = .ok (.ireturn, 1) := dk_172 (dk_at dksX0_fewest_0 17 rfl rfl)
abbrev cX0_isPeople : ByteArray := prog_1_method_9_code
def yX0_isPeople : MethodName := ⟨RX0, "isPeople", "(I)Z"⟩
def dkwX0_isPeople_1 : List UInt8 := [184, 0, 129, 153, 0, 7, 4, 167, 0, 4, 3, 172]
abbrev dktX0_isPeople_1 : List UInt8 := dkwX0_isPeople_1 ++ []
def dkwX0_isPeople_0 : List UInt8 := [42, 182, 0, 139, 153, 0, 28, 27, 133, 9, 4, 42, 180, 0, 12, 182, 0, 125, 120, 4, 100, 133]
abbrev dktX0_isPeople_0 : List UInt8 := dkwX0_isPeople_0 ++ dktX0_isPeople_1
theorem dksX0_isPeople_0 : cX0_isPeople.data.toList.drop 0 = dktX0_isPeople_0 := by decide +kernel
theorem dksX0_isPeople_1 : cX0_isPeople.data.toList.drop 22 = dktX0_isPeople_1 := dk_seg dksX0_isPeople_0 22 rfl rfl
theorem dX0_isPeople_0 : decode cX0_isPeople 0 = .ok (.aload_n 0, 1) := dk_42 (dk_at dksX0_isPeople_0 0 rfl rfl)
theorem dX0_isPeople_1 : decode cX0_isPeople 1 = .ok (.invokevirtual 139, 3) := dk_182 0 139 (dk_at dksX0_isPeople_0 1 rfl rfl)
theorem dX0_isPeople_4 : decode cX0_isPeople 4 = .ok (.ifCond .eq 28, 3) := dk_153 0 28 (dk_at dksX0_isPeople_0 4 rfl rfl)
theorem dX0_isPeople_7 : decode cX0_isPeople 7 = .ok (.iload_n 1, 1) := dk_27 (dk_at dksX0_isPeople_0 7 rfl rfl)
theorem dX0_isPeople_8 : decode cX0_isPeople 8 = .ok (.i2l, 1) := dk_133 (dk_at dksX0_isPeople_0 8 rfl rfl)
theorem dX0_isPeople_9 : decode cX0_isPeople 9 = .ok (.lconst 0, 1) := dk_9 (dk_at dksX0_isPeople_0 9 rfl rfl)
theorem dX0_isPeople_10 : decode cX0_isPeople 10 = .ok (.iconst 1, 1) := dk_4 (dk_at dksX0_isPeople_0 10 rfl rfl)
theorem dX0_isPeople_11 : decode cX0_isPeople 11 = .ok (.aload_n 0, 1) := dk_42 (dk_at dksX0_isPeople_0 11 rfl rfl)
theorem dX0_isPeople_12 : decode cX0_isPeople 12 = .ok (.getfield 12, 3) := dk_180 0 12 (dk_at dksX0_isPeople_0 12 rfl rfl)
theorem dX0_isPeople_15 : decode cX0_isPeople 15 = .ok (.invokevirtual 125, 3) := dk_182 0 125 (dk_at dksX0_isPeople_0 15 rfl rfl)
theorem dX0_isPeople_18 : decode cX0_isPeople 18 = .ok (.ishl, 1) := dk_120 (dk_at dksX0_isPeople_0 18 rfl rfl)
theorem dX0_isPeople_19 : decode cX0_isPeople 19 = .ok (.iconst 1, 1) := dk_4 (dk_at dksX0_isPeople_0 19 rfl rfl)
theorem dX0_isPeople_20 : decode cX0_isPeople 20 = .ok (.isub, 1) := dk_100 (dk_at dksX0_isPeople_0 20 rfl rfl)
theorem dX0_isPeople_21 : decode cX0_isPeople 21 = .ok (.i2l, 1) := dk_133 (dk_at dksX0_isPeople_0 21 rfl rfl)
theorem dX0_isPeople_22 : decode cX0_isPeople 22 = .ok (.invokestatic 129, 3) := dk_184 0 129 (dk_at dksX0_isPeople_1 0 rfl rfl)
theorem dX0_isPeople_25 : decode cX0_isPeople 25 = .ok (.ifCond .eq 7, 3) := dk_153 0 7 (dk_at dksX0_isPeople_1 3 rfl rfl)
theorem dX0_isPeople_28 : decode cX0_isPeople 28 = .ok (.iconst 1, 1) := dk_4 (dk_at dksX0_isPeople_1 6 rfl rfl)
theorem dX0_isPeople_29 : decode cX0_isPeople 29 = .ok (.goto 4, 3) := dk_167 0 4 (dk_at dksX0_isPeople_1 7 rfl rfl)
theorem dX0_isPeople_32 : decode cX0_isPeople 32 = .ok (.iconst 0, 1) := dk_3 (dk_at dksX0_isPeople_1 10 rfl rfl)
theorem dX0_isPeople_33 : decode cX0_isPeople 33 = .ok (.ireturn, 1) := dk_172 (dk_at dksX0_isPeople_1 11 rfl rfl)
abbrev cX0_fewestOf : ByteArray := prog_1_method_49_code
def yX0_fewestOf : MethodName := ⟨RX0, "fewestOf", "(I)I"⟩
def dkwX0_fewestOf_1 : List UInt8 := [167, 0, 9, 42, 180, 0, 92, 28, 46, 172]
abbrev dktX0_fewestOf_1 : List UInt8 := dkwX0_fewestOf_1 ++ []
def dkwX0_fewestOf_0 : List UInt8 := [42, 42, 182, 1, 93, 42, 180, 0, 12, 182, 0, 125, 27, 182, 1, 96, 61, 28, 2, 160, 0, 8, 16, 254]
abbrev dktX0_fewestOf_0 : List UInt8 := dkwX0_fewestOf_0 ++ dktX0_fewestOf_1
theorem dksX0_fewestOf_0 : cX0_fewestOf.data.toList.drop 0 = dktX0_fewestOf_0 := by decide +kernel
theorem dksX0_fewestOf_1 : cX0_fewestOf.data.toList.drop 24 = dktX0_fewestOf_1 := dk_seg dksX0_fewestOf_0 24 rfl rfl
theorem dX0_fewestOf_0 : decode cX0_fewestOf 0 = .ok (.aload_n 0, 1) := dk_42 (dk_at dksX0_fewestOf_0 0 rfl rfl)
theorem dX0_fewestOf_1 : decode cX0_fewestOf 1 = .ok (.aload_n 0, 1) := dk_42 (dk_at dksX0_fewestOf_0 1 rfl rfl)
theorem dX0_fewestOf_2 : decode cX0_fewestOf 2 = .ok (.invokevirtual 349, 3) := dk_182 1 93 (dk_at dksX0_fewestOf_0 2 rfl rfl)
theorem dX0_fewestOf_5 : decode cX0_fewestOf 5 = .ok (.aload_n 0, 1) := dk_42 (dk_at dksX0_fewestOf_0 5 rfl rfl)
theorem dX0_fewestOf_6 : decode cX0_fewestOf 6 = .ok (.getfield 12, 3) := dk_180 0 12 (dk_at dksX0_fewestOf_0 6 rfl rfl)
theorem dX0_fewestOf_9 : decode cX0_fewestOf 9 = .ok (.invokevirtual 125, 3) := dk_182 0 125 (dk_at dksX0_fewestOf_0 9 rfl rfl)
theorem dX0_fewestOf_12 : decode cX0_fewestOf 12 = .ok (.iload_n 1, 1) := dk_27 (dk_at dksX0_fewestOf_0 12 rfl rfl)
theorem dX0_fewestOf_13 : decode cX0_fewestOf 13 = .ok (.invokevirtual 352, 3) := dk_182 1 96 (dk_at dksX0_fewestOf_0 13 rfl rfl)
theorem dX0_fewestOf_16 : decode cX0_fewestOf 16 = .ok (.istore_n 2, 1) := dk_61 (dk_at dksX0_fewestOf_0 16 rfl rfl)
theorem dX0_fewestOf_17 : decode cX0_fewestOf 17 = .ok (.iload_n 2, 1) := dk_28 (dk_at dksX0_fewestOf_0 17 rfl rfl)
theorem dX0_fewestOf_18 : decode cX0_fewestOf 18 = .ok (.iconst (-1), 1) := dk_2 (dk_at dksX0_fewestOf_0 18 rfl rfl)
theorem dX0_fewestOf_19 : decode cX0_fewestOf 19 = .ok (.if_icmp .ne 8, 3) := dk_160 0 8 (dk_at dksX0_fewestOf_0 19 rfl rfl)
theorem dX0_fewestOf_22 : decode cX0_fewestOf 22 = .ok (.bipush (-2), 2) := dk_16 254 (dk_at dksX0_fewestOf_0 22 rfl rfl)
theorem dX0_fewestOf_24 : decode cX0_fewestOf 24 = .ok (.goto 9, 3) := dk_167 0 9 (dk_at dksX0_fewestOf_1 0 rfl rfl)
theorem dX0_fewestOf_27 : decode cX0_fewestOf 27 = .ok (.aload_n 0, 1) := dk_42 (dk_at dksX0_fewestOf_1 3 rfl rfl)
theorem dX0_fewestOf_28 : decode cX0_fewestOf 28 = .ok (.getfield 92, 3) := dk_180 0 92 (dk_at dksX0_fewestOf_1 4 rfl rfl)
theorem dX0_fewestOf_31 : decode cX0_fewestOf 31 = .ok (.iload_n 2, 1) := dk_28 (dk_at dksX0_fewestOf_1 7 rfl rfl)
theorem dX0_fewestOf_32 : decode cX0_fewestOf 32 = .ok (.iaload, 1) := dk_46 (dk_at dksX0_fewestOf_1 8 rfl rfl)
theorem dX0_fewestOf_33 : decode cX0_fewestOf 33 = .ok (.ireturn, 1) := dk_172 (dk_at dksX0_fewestOf_1 9 rfl rfl)
abbrev cX0_placesNow : ByteArray := prog_1_method_43_code
def yX0_placesNow : MethodName := ⟨RX0, "placesNow", "()I"⟩
def dkwX0_placesNow_1 : List UInt8 := [46, 6, 28, 104, 120, 128, 60, 132, 2, 1, 167, 255, 226, 27, 172]
abbrev dktX0_placesNow_1 : List UInt8 := dkwX0_placesNow_1 ++ []
def dkwX0_placesNow_0 : List UInt8 := [3, 60, 3, 61, 28, 42, 180, 0, 12, 182, 0, 125, 162, 0, 25, 27, 42, 180, 0, 19, 180, 0, 202, 28]
abbrev dktX0_placesNow_0 : List UInt8 := dkwX0_placesNow_0 ++ dktX0_placesNow_1
theorem dksX0_placesNow_0 : cX0_placesNow.data.toList.drop 0 = dktX0_placesNow_0 := by decide +kernel
theorem dksX0_placesNow_1 : cX0_placesNow.data.toList.drop 24 = dktX0_placesNow_1 := dk_seg dksX0_placesNow_0 24 rfl rfl
theorem dX0_placesNow_0 : decode cX0_placesNow 0 = .ok (.iconst 0, 1) := dk_3 (dk_at dksX0_placesNow_0 0 rfl rfl)
theorem dX0_placesNow_1 : decode cX0_placesNow 1 = .ok (.istore_n 1, 1) := dk_60 (dk_at dksX0_placesNow_0 1 rfl rfl)
theorem dX0_placesNow_2 : decode cX0_placesNow 2 = .ok (.iconst 0, 1) := dk_3 (dk_at dksX0_placesNow_0 2 rfl rfl)
theorem dX0_placesNow_3 : decode cX0_placesNow 3 = .ok (.istore_n 2, 1) := dk_61 (dk_at dksX0_placesNow_0 3 rfl rfl)
theorem dX0_placesNow_4 : decode cX0_placesNow 4 = .ok (.iload_n 2, 1) := dk_28 (dk_at dksX0_placesNow_0 4 rfl rfl)
theorem dX0_placesNow_5 : decode cX0_placesNow 5 = .ok (.aload_n 0, 1) := dk_42 (dk_at dksX0_placesNow_0 5 rfl rfl)
theorem dX0_placesNow_6 : decode cX0_placesNow 6 = .ok (.getfield 12, 3) := dk_180 0 12 (dk_at dksX0_placesNow_0 6 rfl rfl)
theorem dX0_placesNow_9 : decode cX0_placesNow 9 = .ok (.invokevirtual 125, 3) := dk_182 0 125 (dk_at dksX0_placesNow_0 9 rfl rfl)
theorem dX0_placesNow_12 : decode cX0_placesNow 12 = .ok (.if_icmp .ge 25, 3) := dk_162 0 25 (dk_at dksX0_placesNow_0 12 rfl rfl)
theorem dX0_placesNow_15 : decode cX0_placesNow 15 = .ok (.iload_n 1, 1) := dk_27 (dk_at dksX0_placesNow_0 15 rfl rfl)
theorem dX0_placesNow_16 : decode cX0_placesNow 16 = .ok (.aload_n 0, 1) := dk_42 (dk_at dksX0_placesNow_0 16 rfl rfl)
theorem dX0_placesNow_17 : decode cX0_placesNow 17 = .ok (.getfield 19, 3) := dk_180 0 19 (dk_at dksX0_placesNow_0 17 rfl rfl)
theorem dX0_placesNow_20 : decode cX0_placesNow 20 = .ok (.getfield 202, 3) := dk_180 0 202 (dk_at dksX0_placesNow_0 20 rfl rfl)
theorem dX0_placesNow_23 : decode cX0_placesNow 23 = .ok (.iload_n 2, 1) := dk_28 (dk_at dksX0_placesNow_0 23 rfl rfl)
theorem dX0_placesNow_24 : decode cX0_placesNow 24 = .ok (.iaload, 1) := dk_46 (dk_at dksX0_placesNow_1 0 rfl rfl)
theorem dX0_placesNow_25 : decode cX0_placesNow 25 = .ok (.iconst 3, 1) := dk_6 (dk_at dksX0_placesNow_1 1 rfl rfl)
theorem dX0_placesNow_26 : decode cX0_placesNow 26 = .ok (.iload_n 2, 1) := dk_28 (dk_at dksX0_placesNow_1 2 rfl rfl)
theorem dX0_placesNow_27 : decode cX0_placesNow 27 = .ok (.imul, 1) := dk_104 (dk_at dksX0_placesNow_1 3 rfl rfl)
theorem dX0_placesNow_28 : decode cX0_placesNow 28 = .ok (.ishl, 1) := dk_120 (dk_at dksX0_placesNow_1 4 rfl rfl)
theorem dX0_placesNow_29 : decode cX0_placesNow 29 = .ok (.ior, 1) := dk_128 (dk_at dksX0_placesNow_1 5 rfl rfl)
theorem dX0_placesNow_30 : decode cX0_placesNow 30 = .ok (.istore_n 1, 1) := dk_60 (dk_at dksX0_placesNow_1 6 rfl rfl)
theorem dX0_placesNow_31 : decode cX0_placesNow 31 = .ok (.iinc 2 1, 3) := dk_132 2 1 (dk_at dksX0_placesNow_1 7 rfl rfl)
theorem dX0_placesNow_34 : decode cX0_placesNow 34 = .ok (.goto (-30), 3) := dk_167 255 226 (dk_at dksX0_placesNow_1 10 rfl rfl)
theorem dX0_placesNow_37 : decode cX0_placesNow 37 = .ok (.iload_n 1, 1) := dk_27 (dk_at dksX0_placesNow_1 13 rfl rfl)
theorem dX0_placesNow_38 : decode cX0_placesNow 38 = .ok (.ireturn, 1) := dk_172 (dk_at dksX0_placesNow_1 14 rfl rfl)
abbrev cX0_finds : ByteArray := prog_1_method_48_code
def yX0_finds : MethodName := ⟨RX0, "finds", "(III)I"⟩
def dkwX0_finds_4 : List UInt8 := [132, 4, 1, 167, 255, 209, 2, 172]
abbrev dktX0_finds_4 : List UInt8 := dkwX0_finds_4 ++ []
def dkwX0_finds_3 : List UInt8 := [153, 0, 11, 42, 180, 0, 101, 21, 4, 46, 172, 42, 42, 180, 0, 101, 21, 4, 46, 28, 182, 1, 90]
abbrev dktX0_finds_3 : List UInt8 := dkwX0_finds_3 ++ dktX0_finds_4
def dkwX0_finds_2 : List UInt8 := [54, 4, 21, 4, 42, 180, 1, 72, 162, 0, 44, 42, 42, 180, 0, 101, 21, 4, 46, 29, 182, 1, 87]
abbrev dktX0_finds_2 : List UInt8 := dkwX0_finds_2 ++ dktX0_finds_3
def dkwX0_finds_1 : List UInt8 := [167, 255, 235, 42, 4, 181, 1, 72, 42, 180, 0, 101, 3, 27, 79, 42, 180, 0, 92, 27, 3, 79, 3]
abbrev dktX0_finds_1 : List UInt8 := dkwX0_finds_1 ++ dktX0_finds_2
def dkwX0_finds_0 : List UInt8 := [3, 54, 4, 21, 4, 4, 6, 28, 104, 120, 162, 0, 17, 42, 180, 0, 92, 21, 4, 2, 79, 132, 4, 1]
abbrev dktX0_finds_0 : List UInt8 := dkwX0_finds_0 ++ dktX0_finds_1
theorem dksX0_finds_0 : cX0_finds.data.toList.drop 0 = dktX0_finds_0 := by decide +kernel
theorem dksX0_finds_1 : cX0_finds.data.toList.drop 24 = dktX0_finds_1 := dk_seg dksX0_finds_0 24 rfl rfl
theorem dksX0_finds_2 : cX0_finds.data.toList.drop 47 = dktX0_finds_2 := dk_seg dksX0_finds_1 23 rfl rfl
theorem dksX0_finds_3 : cX0_finds.data.toList.drop 70 = dktX0_finds_3 := dk_seg dksX0_finds_2 23 rfl rfl
theorem dksX0_finds_4 : cX0_finds.data.toList.drop 93 = dktX0_finds_4 := dk_seg dksX0_finds_3 23 rfl rfl
theorem dX0_finds_0 : decode cX0_finds 0 = .ok (.iconst 0, 1) := dk_3 (dk_at dksX0_finds_0 0 rfl rfl)
theorem dX0_finds_1 : decode cX0_finds 1 = .ok (.istore 4, 2) := dk_54 4 (dk_at dksX0_finds_0 1 rfl rfl)
theorem dX0_finds_3 : decode cX0_finds 3 = .ok (.iload 4, 2) := dk_21 4 (dk_at dksX0_finds_0 3 rfl rfl)
theorem dX0_finds_5 : decode cX0_finds 5 = .ok (.iconst 1, 1) := dk_4 (dk_at dksX0_finds_0 5 rfl rfl)
theorem dX0_finds_6 : decode cX0_finds 6 = .ok (.iconst 3, 1) := dk_6 (dk_at dksX0_finds_0 6 rfl rfl)
theorem dX0_finds_7 : decode cX0_finds 7 = .ok (.iload_n 2, 1) := dk_28 (dk_at dksX0_finds_0 7 rfl rfl)
theorem dX0_finds_8 : decode cX0_finds 8 = .ok (.imul, 1) := dk_104 (dk_at dksX0_finds_0 8 rfl rfl)
theorem dX0_finds_9 : decode cX0_finds 9 = .ok (.ishl, 1) := dk_120 (dk_at dksX0_finds_0 9 rfl rfl)
theorem dX0_finds_10 : decode cX0_finds 10 = .ok (.if_icmp .ge 17, 3) := dk_162 0 17 (dk_at dksX0_finds_0 10 rfl rfl)
theorem dX0_finds_13 : decode cX0_finds 13 = .ok (.aload_n 0, 1) := dk_42 (dk_at dksX0_finds_0 13 rfl rfl)
theorem dX0_finds_14 : decode cX0_finds 14 = .ok (.getfield 92, 3) := dk_180 0 92 (dk_at dksX0_finds_0 14 rfl rfl)
theorem dX0_finds_17 : decode cX0_finds 17 = .ok (.iload 4, 2) := dk_21 4 (dk_at dksX0_finds_0 17 rfl rfl)
theorem dX0_finds_19 : decode cX0_finds 19 = .ok (.iconst (-1), 1) := dk_2 (dk_at dksX0_finds_0 19 rfl rfl)
theorem dX0_finds_20 : decode cX0_finds 20 = .ok (.iastore, 1) := dk_79 (dk_at dksX0_finds_0 20 rfl rfl)
theorem dX0_finds_21 : decode cX0_finds 21 = .ok (.iinc 4 1, 3) := dk_132 4 1 (dk_at dksX0_finds_0 21 rfl rfl)
theorem dX0_finds_24 : decode cX0_finds 24 = .ok (.goto (-21), 3) := dk_167 255 235 (dk_at dksX0_finds_1 0 rfl rfl)
theorem dX0_finds_27 : decode cX0_finds 27 = .ok (.aload_n 0, 1) := dk_42 (dk_at dksX0_finds_1 3 rfl rfl)
theorem dX0_finds_28 : decode cX0_finds 28 = .ok (.iconst 1, 1) := dk_4 (dk_at dksX0_finds_1 4 rfl rfl)
theorem dX0_finds_29 : decode cX0_finds 29 = .ok (.putfield 328, 3) := dk_181 1 72 (dk_at dksX0_finds_1 5 rfl rfl)
theorem dX0_finds_32 : decode cX0_finds 32 = .ok (.aload_n 0, 1) := dk_42 (dk_at dksX0_finds_1 8 rfl rfl)
theorem dX0_finds_33 : decode cX0_finds 33 = .ok (.getfield 101, 3) := dk_180 0 101 (dk_at dksX0_finds_1 9 rfl rfl)
theorem dX0_finds_36 : decode cX0_finds 36 = .ok (.iconst 0, 1) := dk_3 (dk_at dksX0_finds_1 12 rfl rfl)
theorem dX0_finds_37 : decode cX0_finds 37 = .ok (.iload_n 1, 1) := dk_27 (dk_at dksX0_finds_1 13 rfl rfl)
theorem dX0_finds_38 : decode cX0_finds 38 = .ok (.iastore, 1) := dk_79 (dk_at dksX0_finds_1 14 rfl rfl)
theorem dX0_finds_39 : decode cX0_finds 39 = .ok (.aload_n 0, 1) := dk_42 (dk_at dksX0_finds_1 15 rfl rfl)
theorem dX0_finds_40 : decode cX0_finds 40 = .ok (.getfield 92, 3) := dk_180 0 92 (dk_at dksX0_finds_1 16 rfl rfl)
theorem dX0_finds_43 : decode cX0_finds 43 = .ok (.iload_n 1, 1) := dk_27 (dk_at dksX0_finds_1 19 rfl rfl)
theorem dX0_finds_44 : decode cX0_finds 44 = .ok (.iconst 0, 1) := dk_3 (dk_at dksX0_finds_1 20 rfl rfl)
theorem dX0_finds_45 : decode cX0_finds 45 = .ok (.iastore, 1) := dk_79 (dk_at dksX0_finds_1 21 rfl rfl)
theorem dX0_finds_46 : decode cX0_finds 46 = .ok (.iconst 0, 1) := dk_3 (dk_at dksX0_finds_1 22 rfl rfl)
theorem dX0_finds_47 : decode cX0_finds 47 = .ok (.istore 4, 2) := dk_54 4 (dk_at dksX0_finds_2 0 rfl rfl)
theorem dX0_finds_49 : decode cX0_finds 49 = .ok (.iload 4, 2) := dk_21 4 (dk_at dksX0_finds_2 2 rfl rfl)
theorem dX0_finds_51 : decode cX0_finds 51 = .ok (.aload_n 0, 1) := dk_42 (dk_at dksX0_finds_2 4 rfl rfl)
theorem dX0_finds_52 : decode cX0_finds 52 = .ok (.getfield 328, 3) := dk_180 1 72 (dk_at dksX0_finds_2 5 rfl rfl)
theorem dX0_finds_55 : decode cX0_finds 55 = .ok (.if_icmp .ge 44, 3) := dk_162 0 44 (dk_at dksX0_finds_2 8 rfl rfl)
theorem dX0_finds_58 : decode cX0_finds 58 = .ok (.aload_n 0, 1) := dk_42 (dk_at dksX0_finds_2 11 rfl rfl)
theorem dX0_finds_59 : decode cX0_finds 59 = .ok (.aload_n 0, 1) := dk_42 (dk_at dksX0_finds_2 12 rfl rfl)
theorem dX0_finds_60 : decode cX0_finds 60 = .ok (.getfield 101, 3) := dk_180 0 101 (dk_at dksX0_finds_2 13 rfl rfl)
theorem dX0_finds_63 : decode cX0_finds 63 = .ok (.iload 4, 2) := dk_21 4 (dk_at dksX0_finds_2 16 rfl rfl)
theorem dX0_finds_65 : decode cX0_finds 65 = .ok (.iaload, 1) := dk_46 (dk_at dksX0_finds_2 18 rfl rfl)
theorem dX0_finds_66 : decode cX0_finds 66 = .ok (.iload_n 3, 1) := dk_29 (dk_at dksX0_finds_2 19 rfl rfl)
theorem dX0_finds_67 : decode cX0_finds 67 = .ok (.invokevirtual 343, 3) := dk_182 1 87 (dk_at dksX0_finds_2 20 rfl rfl)
theorem dX0_finds_70 : decode cX0_finds 70 = .ok (.ifCond .eq 11, 3) := dk_153 0 11 (dk_at dksX0_finds_3 0 rfl rfl)
theorem dX0_finds_73 : decode cX0_finds 73 = .ok (.aload_n 0, 1) := dk_42 (dk_at dksX0_finds_3 3 rfl rfl)
theorem dX0_finds_74 : decode cX0_finds 74 = .ok (.getfield 101, 3) := dk_180 0 101 (dk_at dksX0_finds_3 4 rfl rfl)
theorem dX0_finds_77 : decode cX0_finds 77 = .ok (.iload 4, 2) := dk_21 4 (dk_at dksX0_finds_3 7 rfl rfl)
theorem dX0_finds_79 : decode cX0_finds 79 = .ok (.iaload, 1) := dk_46 (dk_at dksX0_finds_3 9 rfl rfl)
theorem dX0_finds_80 : decode cX0_finds 80 = .ok (.ireturn, 1) := dk_172 (dk_at dksX0_finds_3 10 rfl rfl)
theorem dX0_finds_81 : decode cX0_finds 81 = .ok (.aload_n 0, 1) := dk_42 (dk_at dksX0_finds_3 11 rfl rfl)
theorem dX0_finds_82 : decode cX0_finds 82 = .ok (.aload_n 0, 1) := dk_42 (dk_at dksX0_finds_3 12 rfl rfl)
theorem dX0_finds_83 : decode cX0_finds 83 = .ok (.getfield 101, 3) := dk_180 0 101 (dk_at dksX0_finds_3 13 rfl rfl)
theorem dX0_finds_86 : decode cX0_finds 86 = .ok (.iload 4, 2) := dk_21 4 (dk_at dksX0_finds_3 16 rfl rfl)
theorem dX0_finds_88 : decode cX0_finds 88 = .ok (.iaload, 1) := dk_46 (dk_at dksX0_finds_3 18 rfl rfl)
theorem dX0_finds_89 : decode cX0_finds 89 = .ok (.iload_n 2, 1) := dk_28 (dk_at dksX0_finds_3 19 rfl rfl)
theorem dX0_finds_90 : decode cX0_finds 90 = .ok (.invokevirtual 346, 3) := dk_182 1 90 (dk_at dksX0_finds_3 20 rfl rfl)
theorem dX0_finds_93 : decode cX0_finds 93 = .ok (.iinc 4 1, 3) := dk_132 4 1 (dk_at dksX0_finds_4 0 rfl rfl)
theorem dX0_finds_96 : decode cX0_finds 96 = .ok (.goto (-47), 3) := dk_167 255 209 (dk_at dksX0_finds_4 3 rfl rfl)
theorem dX0_finds_99 : decode cX0_finds 99 = .ok (.iconst (-1), 1) := dk_2 (dk_at dksX0_finds_4 6 rfl rfl)
theorem dX0_finds_100 : decode cX0_finds 100 = .ok (.ireturn, 1) := dk_172 (dk_at dksX0_finds_4 7 rfl rfl)
abbrev cX0_areThere : ByteArray := prog_1_method_47_code
def yX0_areThere : MethodName := ⟨RX0, "areThere", "(II)Z"⟩
def dkwX0_areThere_2 : List UInt8 := [172]
abbrev dktX0_areThere_2 : List UInt8 := dkwX0_areThere_2 ++ []
def dkwX0_areThere_1 : List UInt8 := [184, 1, 75, 42, 180, 0, 19, 180, 0, 192, 29, 46, 159, 0, 5, 3, 172, 132, 3, 1, 167, 255, 215, 4]
abbrev dktX0_areThere_1 : List UInt8 := dkwX0_areThere_1 ++ dktX0_areThere_2
def dkwX0_areThere_0 : List UInt8 := [3, 62, 29, 42, 180, 0, 12, 182, 0, 125, 162, 0, 36, 28, 29, 184, 0, 213, 153, 0, 22, 27, 29]
abbrev dktX0_areThere_0 : List UInt8 := dkwX0_areThere_0 ++ dktX0_areThere_1
theorem dksX0_areThere_0 : cX0_areThere.data.toList.drop 0 = dktX0_areThere_0 := by decide +kernel
theorem dksX0_areThere_1 : cX0_areThere.data.toList.drop 23 = dktX0_areThere_1 := dk_seg dksX0_areThere_0 23 rfl rfl
theorem dksX0_areThere_2 : cX0_areThere.data.toList.drop 47 = dktX0_areThere_2 := dk_seg dksX0_areThere_1 24 rfl rfl
theorem dX0_areThere_0 : decode cX0_areThere 0 = .ok (.iconst 0, 1) := dk_3 (dk_at dksX0_areThere_0 0 rfl rfl)
theorem dX0_areThere_1 : decode cX0_areThere 1 = .ok (.istore_n 3, 1) := dk_62 (dk_at dksX0_areThere_0 1 rfl rfl)
theorem dX0_areThere_2 : decode cX0_areThere 2 = .ok (.iload_n 3, 1) := dk_29 (dk_at dksX0_areThere_0 2 rfl rfl)
theorem dX0_areThere_3 : decode cX0_areThere 3 = .ok (.aload_n 0, 1) := dk_42 (dk_at dksX0_areThere_0 3 rfl rfl)
theorem dX0_areThere_4 : decode cX0_areThere 4 = .ok (.getfield 12, 3) := dk_180 0 12 (dk_at dksX0_areThere_0 4 rfl rfl)
theorem dX0_areThere_7 : decode cX0_areThere 7 = .ok (.invokevirtual 125, 3) := dk_182 0 125 (dk_at dksX0_areThere_0 7 rfl rfl)
theorem dX0_areThere_10 : decode cX0_areThere 10 = .ok (.if_icmp .ge 36, 3) := dk_162 0 36 (dk_at dksX0_areThere_0 10 rfl rfl)
theorem dX0_areThere_13 : decode cX0_areThere 13 = .ok (.iload_n 2, 1) := dk_28 (dk_at dksX0_areThere_0 13 rfl rfl)
theorem dX0_areThere_14 : decode cX0_areThere 14 = .ok (.iload_n 3, 1) := dk_29 (dk_at dksX0_areThere_0 14 rfl rfl)
theorem dX0_areThere_15 : decode cX0_areThere 15 = .ok (.invokestatic 213, 3) := dk_184 0 213 (dk_at dksX0_areThere_0 15 rfl rfl)
theorem dX0_areThere_18 : decode cX0_areThere 18 = .ok (.ifCond .eq 22, 3) := dk_153 0 22 (dk_at dksX0_areThere_0 18 rfl rfl)
theorem dX0_areThere_21 : decode cX0_areThere 21 = .ok (.iload_n 1, 1) := dk_27 (dk_at dksX0_areThere_0 21 rfl rfl)
theorem dX0_areThere_22 : decode cX0_areThere 22 = .ok (.iload_n 3, 1) := dk_29 (dk_at dksX0_areThere_0 22 rfl rfl)
theorem dX0_areThere_23 : decode cX0_areThere 23 = .ok (.invokestatic 331, 3) := dk_184 1 75 (dk_at dksX0_areThere_1 0 rfl rfl)
theorem dX0_areThere_26 : decode cX0_areThere 26 = .ok (.aload_n 0, 1) := dk_42 (dk_at dksX0_areThere_1 3 rfl rfl)
theorem dX0_areThere_27 : decode cX0_areThere 27 = .ok (.getfield 19, 3) := dk_180 0 19 (dk_at dksX0_areThere_1 4 rfl rfl)
theorem dX0_areThere_30 : decode cX0_areThere 30 = .ok (.getfield 192, 3) := dk_180 0 192 (dk_at dksX0_areThere_1 7 rfl rfl)
theorem dX0_areThere_33 : decode cX0_areThere 33 = .ok (.iload_n 3, 1) := dk_29 (dk_at dksX0_areThere_1 10 rfl rfl)
theorem dX0_areThere_34 : decode cX0_areThere 34 = .ok (.iaload, 1) := dk_46 (dk_at dksX0_areThere_1 11 rfl rfl)
theorem dX0_areThere_35 : decode cX0_areThere 35 = .ok (.if_icmp .eq 5, 3) := dk_159 0 5 (dk_at dksX0_areThere_1 12 rfl rfl)
theorem dX0_areThere_38 : decode cX0_areThere 38 = .ok (.iconst 0, 1) := dk_3 (dk_at dksX0_areThere_1 15 rfl rfl)
theorem dX0_areThere_39 : decode cX0_areThere 39 = .ok (.ireturn, 1) := dk_172 (dk_at dksX0_areThere_1 16 rfl rfl)
theorem dX0_areThere_40 : decode cX0_areThere 40 = .ok (.iinc 3 1, 3) := dk_132 3 1 (dk_at dksX0_areThere_1 17 rfl rfl)
theorem dX0_areThere_43 : decode cX0_areThere 43 = .ok (.goto (-41), 3) := dk_167 255 215 (dk_at dksX0_areThere_1 20 rfl rfl)
theorem dX0_areThere_46 : decode cX0_areThere 46 = .ok (.iconst 1, 1) := dk_4 (dk_at dksX0_areThere_1 23 rfl rfl)
theorem dX0_areThere_47 : decode cX0_areThere 47 = .ok (.ireturn, 1) := dk_172 (dk_at dksX0_areThere_2 0 rfl rfl)
abbrev cX0_placeOf : ByteArray := prog_1_method_41_code
def yX0_placeOf : MethodName := ⟨RX0, "placeOf", "(II)I"⟩
def dkwX0_placeOf_0 : List UInt8 := [26, 6, 27, 104, 122, 16, 7, 126, 172]
abbrev dktX0_placeOf_0 : List UInt8 := dkwX0_placeOf_0 ++ []
theorem dksX0_placeOf_0 : cX0_placeOf.data.toList.drop 0 = dktX0_placeOf_0 := by decide +kernel
theorem dX0_placeOf_0 : decode cX0_placeOf 0 = .ok (.iload_n 0, 1) := dk_26 (dk_at dksX0_placeOf_0 0 rfl rfl)
theorem dX0_placeOf_1 : decode cX0_placeOf 1 = .ok (.iconst 3, 1) := dk_6 (dk_at dksX0_placeOf_0 1 rfl rfl)
theorem dX0_placeOf_2 : decode cX0_placeOf 2 = .ok (.iload_n 1, 1) := dk_27 (dk_at dksX0_placeOf_0 2 rfl rfl)
theorem dX0_placeOf_3 : decode cX0_placeOf 3 = .ok (.imul, 1) := dk_104 (dk_at dksX0_placeOf_0 3 rfl rfl)
theorem dX0_placeOf_4 : decode cX0_placeOf 4 = .ok (.ishr, 1) := dk_122 (dk_at dksX0_placeOf_0 4 rfl rfl)
theorem dX0_placeOf_5 : decode cX0_placeOf 5 = .ok (.bipush 7, 2) := dk_16 7 (dk_at dksX0_placeOf_0 5 rfl rfl)
theorem dX0_placeOf_7 : decode cX0_placeOf 7 = .ok (.iand, 1) := dk_126 (dk_at dksX0_placeOf_0 7 rfl rfl)
theorem dX0_placeOf_8 : decode cX0_placeOf 8 = .ok (.ireturn, 1) := dk_172 (dk_at dksX0_placeOf_0 8 rfl rfl)
abbrev cX0_spreads : ByteArray := prog_1_method_45_code
def yX0_spreads : MethodName := ⟨RX0, "spreads", "(II)V"⟩
def dkwX0_spreads_10 : List UInt8 := [184, 1, 81, 182, 1, 84, 132, 3, 1, 167, 255, 199, 177]
abbrev dktX0_spreads_10 : List UInt8 := dkwX0_spreads_10 ++ []
def dkwX0_spreads_9 : List UInt8 := [27, 29, 42, 180, 0, 12, 42, 180, 0, 104, 182, 0, 179, 184, 1, 78, 27, 2, 42, 180, 0, 104, 29]
abbrev dktX0_spreads_9 : List UInt8 := dkwX0_spreads_9 ++ dktX0_spreads_10
def dkwX0_spreads_8 : List UInt8 := [28, 162, 0, 58, 27, 29, 184, 1, 75, 42, 180, 0, 12, 42, 180, 0, 104, 182, 0, 183, 160, 0, 33, 42]
abbrev dktX0_spreads_8 : List UInt8 := dkwX0_spreads_8 ++ dktX0_spreads_9
def dkwX0_spreads_7 : List UInt8 := [132, 4, 1, 167, 255, 101, 132, 3, 1, 167, 255, 87, 42, 180, 0, 104, 2, 160, 0, 4, 177, 3, 62, 29]
abbrev dktX0_spreads_7 : List UInt8 := dkwX0_spreads_7 ++ dktX0_spreads_8
def dkwX0_spreads_6 : List UInt8 := [182, 0, 179, 184, 1, 78, 27, 29, 21, 4, 21, 6, 184, 1, 81, 182, 1, 84, 132, 6, 1, 167, 255, 194]
abbrev dktX0_spreads_6 : List UInt8 := dkwX0_spreads_6 ++ dktX0_spreads_7
def dkwX0_spreads_5 : List UInt8 := [42, 180, 0, 12, 21, 4, 182, 0, 183, 160, 0, 32, 42, 21, 5, 21, 6, 42, 180, 0, 12, 21, 4]
abbrev dktX0_spreads_5 : List UInt8 := dkwX0_spreads_5 ++ dktX0_spreads_6
def dkwX0_spreads_4 : List UInt8 := [182, 1, 84, 3, 54, 6, 21, 6, 28, 162, 0, 62, 21, 6, 29, 159, 0, 50, 27, 21, 6, 184, 1, 75]
abbrev dktX0_spreads_4 : List UInt8 := dkwX0_spreads_4 ++ dktX0_spreads_5
def dkwX0_spreads_3 : List UInt8 := [180, 0, 12, 21, 4, 182, 0, 183, 184, 1, 78, 54, 5, 42, 21, 5, 27, 29, 21, 4, 2, 184, 1, 81]
abbrev dktX0_spreads_3 : List UInt8 := dkwX0_spreads_3 ++ dktX0_spreads_4
def dkwX0_spreads_2 : List UInt8 := [180, 0, 12, 21, 4, 182, 0, 179, 27, 29, 184, 1, 75, 159, 0, 6, 167, 0, 101, 27, 29, 42]
abbrev dktX0_spreads_2 : List UInt8 := dkwX0_spreads_2 ++ dktX0_spreads_3
def dkwX0_spreads_1 : List UInt8 := [162, 0, 146, 42, 180, 0, 12, 21, 4, 42, 180, 0, 19, 180, 0, 195, 182, 0, 175, 153, 0, 121, 42]
abbrev dktX0_spreads_1 : List UInt8 := dkwX0_spreads_1 ++ dktX0_spreads_2
def dkwX0_spreads_0 : List UInt8 := [3, 62, 29, 28, 162, 0, 170, 3, 54, 4, 21, 4, 42, 180, 0, 12, 180, 0, 133, 182, 0, 136]
abbrev dktX0_spreads_0 : List UInt8 := dkwX0_spreads_0 ++ dktX0_spreads_1
theorem dksX0_spreads_0 : cX0_spreads.data.toList.drop 0 = dktX0_spreads_0 := by decide +kernel
theorem dksX0_spreads_1 : cX0_spreads.data.toList.drop 22 = dktX0_spreads_1 := dk_seg dksX0_spreads_0 22 rfl rfl
theorem dksX0_spreads_2 : cX0_spreads.data.toList.drop 45 = dktX0_spreads_2 := dk_seg dksX0_spreads_1 23 rfl rfl
theorem dksX0_spreads_3 : cX0_spreads.data.toList.drop 67 = dktX0_spreads_3 := dk_seg dksX0_spreads_2 22 rfl rfl
theorem dksX0_spreads_4 : cX0_spreads.data.toList.drop 91 = dktX0_spreads_4 := dk_seg dksX0_spreads_3 24 rfl rfl
theorem dksX0_spreads_5 : cX0_spreads.data.toList.drop 115 = dktX0_spreads_5 := dk_seg dksX0_spreads_4 24 rfl rfl
theorem dksX0_spreads_6 : cX0_spreads.data.toList.drop 138 = dktX0_spreads_6 := dk_seg dksX0_spreads_5 23 rfl rfl
theorem dksX0_spreads_7 : cX0_spreads.data.toList.drop 162 = dktX0_spreads_7 := dk_seg dksX0_spreads_6 24 rfl rfl
theorem dksX0_spreads_8 : cX0_spreads.data.toList.drop 186 = dktX0_spreads_8 := dk_seg dksX0_spreads_7 24 rfl rfl
theorem dksX0_spreads_9 : cX0_spreads.data.toList.drop 210 = dktX0_spreads_9 := dk_seg dksX0_spreads_8 24 rfl rfl
theorem dksX0_spreads_10 : cX0_spreads.data.toList.drop 233 = dktX0_spreads_10 := dk_seg dksX0_spreads_9 23 rfl rfl
theorem dX0_spreads_0 : decode cX0_spreads 0 = .ok (.iconst 0, 1) := dk_3 (dk_at dksX0_spreads_0 0 rfl rfl)
theorem dX0_spreads_1 : decode cX0_spreads 1 = .ok (.istore_n 3, 1) := dk_62 (dk_at dksX0_spreads_0 1 rfl rfl)
theorem dX0_spreads_2 : decode cX0_spreads 2 = .ok (.iload_n 3, 1) := dk_29 (dk_at dksX0_spreads_0 2 rfl rfl)
theorem dX0_spreads_3 : decode cX0_spreads 3 = .ok (.iload_n 2, 1) := dk_28 (dk_at dksX0_spreads_0 3 rfl rfl)
theorem dX0_spreads_4 : decode cX0_spreads 4 = .ok (.if_icmp .ge 170, 3) := dk_162 0 170 (dk_at dksX0_spreads_0 4 rfl rfl)
theorem dX0_spreads_7 : decode cX0_spreads 7 = .ok (.iconst 0, 1) := dk_3 (dk_at dksX0_spreads_0 7 rfl rfl)
theorem dX0_spreads_8 : decode cX0_spreads 8 = .ok (.istore 4, 2) := dk_54 4 (dk_at dksX0_spreads_0 8 rfl rfl)
theorem dX0_spreads_10 : decode cX0_spreads 10 = .ok (.iload 4, 2) := dk_21 4 (dk_at dksX0_spreads_0 10 rfl rfl)
theorem dX0_spreads_12 : decode cX0_spreads 12 = .ok (.aload_n 0, 1) := dk_42 (dk_at dksX0_spreads_0 12 rfl rfl)
theorem dX0_spreads_13 : decode cX0_spreads 13 = .ok (.getfield 12, 3) := dk_180 0 12 (dk_at dksX0_spreads_0 13 rfl rfl)
theorem dX0_spreads_16 : decode cX0_spreads 16 = .ok (.getfield 133, 3) := dk_180 0 133 (dk_at dksX0_spreads_0 16 rfl rfl)
theorem dX0_spreads_19 : decode cX0_spreads 19 = .ok (.invokevirtual 136, 3) := dk_182 0 136 (dk_at dksX0_spreads_0 19 rfl rfl)
theorem dX0_spreads_22 : decode cX0_spreads 22 = .ok (.if_icmp .ge 146, 3) := dk_162 0 146 (dk_at dksX0_spreads_1 0 rfl rfl)
theorem dX0_spreads_25 : decode cX0_spreads 25 = .ok (.aload_n 0, 1) := dk_42 (dk_at dksX0_spreads_1 3 rfl rfl)
theorem dX0_spreads_26 : decode cX0_spreads 26 = .ok (.getfield 12, 3) := dk_180 0 12 (dk_at dksX0_spreads_1 4 rfl rfl)
theorem dX0_spreads_29 : decode cX0_spreads 29 = .ok (.iload 4, 2) := dk_21 4 (dk_at dksX0_spreads_1 7 rfl rfl)
theorem dX0_spreads_31 : decode cX0_spreads 31 = .ok (.aload_n 0, 1) := dk_42 (dk_at dksX0_spreads_1 9 rfl rfl)
theorem dX0_spreads_32 : decode cX0_spreads 32 = .ok (.getfield 19, 3) := dk_180 0 19 (dk_at dksX0_spreads_1 10 rfl rfl)
theorem dX0_spreads_35 : decode cX0_spreads 35 = .ok (.getfield 195, 3) := dk_180 0 195 (dk_at dksX0_spreads_1 13 rfl rfl)
theorem dX0_spreads_38 : decode cX0_spreads 38 = .ok (.invokevirtual 175, 3) := dk_182 0 175 (dk_at dksX0_spreads_1 16 rfl rfl)
theorem dX0_spreads_41 : decode cX0_spreads 41 = .ok (.ifCond .eq 121, 3) := dk_153 0 121 (dk_at dksX0_spreads_1 19 rfl rfl)
theorem dX0_spreads_44 : decode cX0_spreads 44 = .ok (.aload_n 0, 1) := dk_42 (dk_at dksX0_spreads_1 22 rfl rfl)
theorem dX0_spreads_45 : decode cX0_spreads 45 = .ok (.getfield 12, 3) := dk_180 0 12 (dk_at dksX0_spreads_2 0 rfl rfl)
theorem dX0_spreads_48 : decode cX0_spreads 48 = .ok (.iload 4, 2) := dk_21 4 (dk_at dksX0_spreads_2 3 rfl rfl)
theorem dX0_spreads_50 : decode cX0_spreads 50 = .ok (.invokevirtual 179, 3) := dk_182 0 179 (dk_at dksX0_spreads_2 5 rfl rfl)
theorem dX0_spreads_53 : decode cX0_spreads 53 = .ok (.iload_n 1, 1) := dk_27 (dk_at dksX0_spreads_2 8 rfl rfl)
theorem dX0_spreads_54 : decode cX0_spreads 54 = .ok (.iload_n 3, 1) := dk_29 (dk_at dksX0_spreads_2 9 rfl rfl)
theorem dX0_spreads_55 : decode cX0_spreads 55 = .ok (.invokestatic 331, 3) := dk_184 1 75 (dk_at dksX0_spreads_2 10 rfl rfl)
theorem dX0_spreads_58 : decode cX0_spreads 58 = .ok (.if_icmp .eq 6, 3) := dk_159 0 6 (dk_at dksX0_spreads_2 13 rfl rfl)
theorem dX0_spreads_61 : decode cX0_spreads 61 = .ok (.goto 101, 3) := dk_167 0 101 (dk_at dksX0_spreads_2 16 rfl rfl)
theorem dX0_spreads_64 : decode cX0_spreads 64 = .ok (.iload_n 1, 1) := dk_27 (dk_at dksX0_spreads_2 19 rfl rfl)
theorem dX0_spreads_65 : decode cX0_spreads 65 = .ok (.iload_n 3, 1) := dk_29 (dk_at dksX0_spreads_2 20 rfl rfl)
theorem dX0_spreads_66 : decode cX0_spreads 66 = .ok (.aload_n 0, 1) := dk_42 (dk_at dksX0_spreads_2 21 rfl rfl)
theorem dX0_spreads_67 : decode cX0_spreads 67 = .ok (.getfield 12, 3) := dk_180 0 12 (dk_at dksX0_spreads_3 0 rfl rfl)
theorem dX0_spreads_70 : decode cX0_spreads 70 = .ok (.iload 4, 2) := dk_21 4 (dk_at dksX0_spreads_3 3 rfl rfl)
theorem dX0_spreads_72 : decode cX0_spreads 72 = .ok (.invokevirtual 183, 3) := dk_182 0 183 (dk_at dksX0_spreads_3 5 rfl rfl)
theorem dX0_spreads_75 : decode cX0_spreads 75 = .ok (.invokestatic 334, 3) := dk_184 1 78 (dk_at dksX0_spreads_3 8 rfl rfl)
theorem dX0_spreads_78 : decode cX0_spreads 78 = .ok (.istore 5, 2) := dk_54 5 (dk_at dksX0_spreads_3 11 rfl rfl)
theorem dX0_spreads_80 : decode cX0_spreads 80 = .ok (.aload_n 0, 1) := dk_42 (dk_at dksX0_spreads_3 13 rfl rfl)
theorem dX0_spreads_81 : decode cX0_spreads 81 = .ok (.iload 5, 2) := dk_21 5 (dk_at dksX0_spreads_3 14 rfl rfl)
theorem dX0_spreads_83 : decode cX0_spreads 83 = .ok (.iload_n 1, 1) := dk_27 (dk_at dksX0_spreads_3 16 rfl rfl)
theorem dX0_spreads_84 : decode cX0_spreads 84 = .ok (.iload_n 3, 1) := dk_29 (dk_at dksX0_spreads_3 17 rfl rfl)
theorem dX0_spreads_85 : decode cX0_spreads 85 = .ok (.iload 4, 2) := dk_21 4 (dk_at dksX0_spreads_3 18 rfl rfl)
theorem dX0_spreads_87 : decode cX0_spreads 87 = .ok (.iconst (-1), 1) := dk_2 (dk_at dksX0_spreads_3 20 rfl rfl)
theorem dX0_spreads_88 : decode cX0_spreads 88 = .ok (.invokestatic 337, 3) := dk_184 1 81 (dk_at dksX0_spreads_3 21 rfl rfl)
theorem dX0_spreads_91 : decode cX0_spreads 91 = .ok (.invokevirtual 340, 3) := dk_182 1 84 (dk_at dksX0_spreads_4 0 rfl rfl)
theorem dX0_spreads_94 : decode cX0_spreads 94 = .ok (.iconst 0, 1) := dk_3 (dk_at dksX0_spreads_4 3 rfl rfl)
theorem dX0_spreads_95 : decode cX0_spreads 95 = .ok (.istore 6, 2) := dk_54 6 (dk_at dksX0_spreads_4 4 rfl rfl)
theorem dX0_spreads_97 : decode cX0_spreads 97 = .ok (.iload 6, 2) := dk_21 6 (dk_at dksX0_spreads_4 6 rfl rfl)
theorem dX0_spreads_99 : decode cX0_spreads 99 = .ok (.iload_n 2, 1) := dk_28 (dk_at dksX0_spreads_4 8 rfl rfl)
theorem dX0_spreads_100 : decode cX0_spreads 100 = .ok (.if_icmp .ge 62, 3) := dk_162 0 62 (dk_at dksX0_spreads_4 9 rfl rfl)
theorem dX0_spreads_103 : decode cX0_spreads 103 = .ok (.iload 6, 2) := dk_21 6 (dk_at dksX0_spreads_4 12 rfl rfl)
theorem dX0_spreads_105 : decode cX0_spreads 105 = .ok (.iload_n 3, 1) := dk_29 (dk_at dksX0_spreads_4 14 rfl rfl)
theorem dX0_spreads_106 : decode cX0_spreads 106 = .ok (.if_icmp .eq 50, 3) := dk_159 0 50 (dk_at dksX0_spreads_4 15 rfl rfl)
theorem dX0_spreads_109 : decode cX0_spreads 109 = .ok (.iload_n 1, 1) := dk_27 (dk_at dksX0_spreads_4 18 rfl rfl)
theorem dX0_spreads_110 : decode cX0_spreads 110 = .ok (.iload 6, 2) := dk_21 6 (dk_at dksX0_spreads_4 19 rfl rfl)
theorem dX0_spreads_112 : decode cX0_spreads 112 = .ok (.invokestatic 331, 3) := dk_184 1 75 (dk_at dksX0_spreads_4 21 rfl rfl)
theorem dX0_spreads_115 : decode cX0_spreads 115 = .ok (.aload_n 0, 1) := dk_42 (dk_at dksX0_spreads_5 0 rfl rfl)
theorem dX0_spreads_116 : decode cX0_spreads 116 = .ok (.getfield 12, 3) := dk_180 0 12 (dk_at dksX0_spreads_5 1 rfl rfl)
theorem dX0_spreads_119 : decode cX0_spreads 119 = .ok (.iload 4, 2) := dk_21 4 (dk_at dksX0_spreads_5 4 rfl rfl)
theorem dX0_spreads_121 : decode cX0_spreads 121 = .ok (.invokevirtual 183, 3) := dk_182 0 183 (dk_at dksX0_spreads_5 6 rfl rfl)
theorem dX0_spreads_124 : decode cX0_spreads 124 = .ok (.if_icmp .ne 32, 3) := dk_160 0 32 (dk_at dksX0_spreads_5 9 rfl rfl)
theorem dX0_spreads_127 : decode cX0_spreads 127 = .ok (.aload_n 0, 1) := dk_42 (dk_at dksX0_spreads_5 12 rfl rfl)
theorem dX0_spreads_128 : decode cX0_spreads 128 = .ok (.iload 5, 2) := dk_21 5 (dk_at dksX0_spreads_5 13 rfl rfl)
theorem dX0_spreads_130 : decode cX0_spreads 130 = .ok (.iload 6, 2) := dk_21 6 (dk_at dksX0_spreads_5 15 rfl rfl)
theorem dX0_spreads_132 : decode cX0_spreads 132 = .ok (.aload_n 0, 1) := dk_42 (dk_at dksX0_spreads_5 17 rfl rfl)
theorem dX0_spreads_133 : decode cX0_spreads 133 = .ok (.getfield 12, 3) := dk_180 0 12 (dk_at dksX0_spreads_5 18 rfl rfl)
theorem dX0_spreads_136 : decode cX0_spreads 136 = .ok (.iload 4, 2) := dk_21 4 (dk_at dksX0_spreads_5 21 rfl rfl)
theorem dX0_spreads_138 : decode cX0_spreads 138 = .ok (.invokevirtual 179, 3) := dk_182 0 179 (dk_at dksX0_spreads_6 0 rfl rfl)
theorem dX0_spreads_141 : decode cX0_spreads 141 = .ok (.invokestatic 334, 3) := dk_184 1 78 (dk_at dksX0_spreads_6 3 rfl rfl)
theorem dX0_spreads_144 : decode cX0_spreads 144 = .ok (.iload_n 1, 1) := dk_27 (dk_at dksX0_spreads_6 6 rfl rfl)
theorem dX0_spreads_145 : decode cX0_spreads 145 = .ok (.iload_n 3, 1) := dk_29 (dk_at dksX0_spreads_6 7 rfl rfl)
theorem dX0_spreads_146 : decode cX0_spreads 146 = .ok (.iload 4, 2) := dk_21 4 (dk_at dksX0_spreads_6 8 rfl rfl)
theorem dX0_spreads_148 : decode cX0_spreads 148 = .ok (.iload 6, 2) := dk_21 6 (dk_at dksX0_spreads_6 10 rfl rfl)
theorem dX0_spreads_150 : decode cX0_spreads 150 = .ok (.invokestatic 337, 3) := dk_184 1 81 (dk_at dksX0_spreads_6 12 rfl rfl)
theorem dX0_spreads_153 : decode cX0_spreads 153 = .ok (.invokevirtual 340, 3) := dk_182 1 84 (dk_at dksX0_spreads_6 15 rfl rfl)
theorem dX0_spreads_156 : decode cX0_spreads 156 = .ok (.iinc 6 1, 3) := dk_132 6 1 (dk_at dksX0_spreads_6 18 rfl rfl)
theorem dX0_spreads_159 : decode cX0_spreads 159 = .ok (.goto (-62), 3) := dk_167 255 194 (dk_at dksX0_spreads_6 21 rfl rfl)
theorem dX0_spreads_162 : decode cX0_spreads 162 = .ok (.iinc 4 1, 3) := dk_132 4 1 (dk_at dksX0_spreads_7 0 rfl rfl)
theorem dX0_spreads_165 : decode cX0_spreads 165 = .ok (.goto (-155), 3) := dk_167 255 101 (dk_at dksX0_spreads_7 3 rfl rfl)
theorem dX0_spreads_168 : decode cX0_spreads 168 = .ok (.iinc 3 1, 3) := dk_132 3 1 (dk_at dksX0_spreads_7 6 rfl rfl)
theorem dX0_spreads_171 : decode cX0_spreads 171 = .ok (.goto (-169), 3) := dk_167 255 87 (dk_at dksX0_spreads_7 9 rfl rfl)
theorem dX0_spreads_174 : decode cX0_spreads 174 = .ok (.aload_n 0, 1) := dk_42 (dk_at dksX0_spreads_7 12 rfl rfl)
theorem dX0_spreads_175 : decode cX0_spreads 175 = .ok (.getfield 104, 3) := dk_180 0 104 (dk_at dksX0_spreads_7 13 rfl rfl)
theorem dX0_spreads_178 : decode cX0_spreads 178 = .ok (.iconst (-1), 1) := dk_2 (dk_at dksX0_spreads_7 16 rfl rfl)
theorem dX0_spreads_179 : decode cX0_spreads 179 = .ok (.if_icmp .ne 4, 3) := dk_160 0 4 (dk_at dksX0_spreads_7 17 rfl rfl)
theorem dX0_spreads_182 : decode cX0_spreads 182 = .ok (.return_, 1) := dk_177 (dk_at dksX0_spreads_7 20 rfl rfl)
theorem dX0_spreads_183 : decode cX0_spreads 183 = .ok (.iconst 0, 1) := dk_3 (dk_at dksX0_spreads_7 21 rfl rfl)
theorem dX0_spreads_184 : decode cX0_spreads 184 = .ok (.istore_n 3, 1) := dk_62 (dk_at dksX0_spreads_7 22 rfl rfl)
theorem dX0_spreads_185 : decode cX0_spreads 185 = .ok (.iload_n 3, 1) := dk_29 (dk_at dksX0_spreads_7 23 rfl rfl)
theorem dX0_spreads_186 : decode cX0_spreads 186 = .ok (.iload_n 2, 1) := dk_28 (dk_at dksX0_spreads_8 0 rfl rfl)
theorem dX0_spreads_187 : decode cX0_spreads 187 = .ok (.if_icmp .ge 58, 3) := dk_162 0 58 (dk_at dksX0_spreads_8 1 rfl rfl)
theorem dX0_spreads_190 : decode cX0_spreads 190 = .ok (.iload_n 1, 1) := dk_27 (dk_at dksX0_spreads_8 4 rfl rfl)
theorem dX0_spreads_191 : decode cX0_spreads 191 = .ok (.iload_n 3, 1) := dk_29 (dk_at dksX0_spreads_8 5 rfl rfl)
theorem dX0_spreads_192 : decode cX0_spreads 192 = .ok (.invokestatic 331, 3) := dk_184 1 75 (dk_at dksX0_spreads_8 6 rfl rfl)
theorem dX0_spreads_195 : decode cX0_spreads 195 = .ok (.aload_n 0, 1) := dk_42 (dk_at dksX0_spreads_8 9 rfl rfl)
theorem dX0_spreads_196 : decode cX0_spreads 196 = .ok (.getfield 12, 3) := dk_180 0 12 (dk_at dksX0_spreads_8 10 rfl rfl)
theorem dX0_spreads_199 : decode cX0_spreads 199 = .ok (.aload_n 0, 1) := dk_42 (dk_at dksX0_spreads_8 13 rfl rfl)
theorem dX0_spreads_200 : decode cX0_spreads 200 = .ok (.getfield 104, 3) := dk_180 0 104 (dk_at dksX0_spreads_8 14 rfl rfl)
theorem dX0_spreads_203 : decode cX0_spreads 203 = .ok (.invokevirtual 183, 3) := dk_182 0 183 (dk_at dksX0_spreads_8 17 rfl rfl)
theorem dX0_spreads_206 : decode cX0_spreads 206 = .ok (.if_icmp .ne 33, 3) := dk_160 0 33 (dk_at dksX0_spreads_8 20 rfl rfl)
theorem dX0_spreads_209 : decode cX0_spreads 209 = .ok (.aload_n 0, 1) := dk_42 (dk_at dksX0_spreads_8 23 rfl rfl)
theorem dX0_spreads_210 : decode cX0_spreads 210 = .ok (.iload_n 1, 1) := dk_27 (dk_at dksX0_spreads_9 0 rfl rfl)
theorem dX0_spreads_211 : decode cX0_spreads 211 = .ok (.iload_n 3, 1) := dk_29 (dk_at dksX0_spreads_9 1 rfl rfl)
theorem dX0_spreads_212 : decode cX0_spreads 212 = .ok (.aload_n 0, 1) := dk_42 (dk_at dksX0_spreads_9 2 rfl rfl)
theorem dX0_spreads_213 : decode cX0_spreads 213 = .ok (.getfield 12, 3) := dk_180 0 12 (dk_at dksX0_spreads_9 3 rfl rfl)
theorem dX0_spreads_216 : decode cX0_spreads 216 = .ok (.aload_n 0, 1) := dk_42 (dk_at dksX0_spreads_9 6 rfl rfl)
theorem dX0_spreads_217 : decode cX0_spreads 217 = .ok (.getfield 104, 3) := dk_180 0 104 (dk_at dksX0_spreads_9 7 rfl rfl)
theorem dX0_spreads_220 : decode cX0_spreads 220 = .ok (.invokevirtual 179, 3) := dk_182 0 179 (dk_at dksX0_spreads_9 10 rfl rfl)
theorem dX0_spreads_223 : decode cX0_spreads 223 = .ok (.invokestatic 334, 3) := dk_184 1 78 (dk_at dksX0_spreads_9 13 rfl rfl)
theorem dX0_spreads_226 : decode cX0_spreads 226 = .ok (.iload_n 1, 1) := dk_27 (dk_at dksX0_spreads_9 16 rfl rfl)
theorem dX0_spreads_227 : decode cX0_spreads 227 = .ok (.iconst (-1), 1) := dk_2 (dk_at dksX0_spreads_9 17 rfl rfl)
theorem dX0_spreads_228 : decode cX0_spreads 228 = .ok (.aload_n 0, 1) := dk_42 (dk_at dksX0_spreads_9 18 rfl rfl)
theorem dX0_spreads_229 : decode cX0_spreads 229 = .ok (.getfield 104, 3) := dk_180 0 104 (dk_at dksX0_spreads_9 19 rfl rfl)
theorem dX0_spreads_232 : decode cX0_spreads 232 = .ok (.iload_n 3, 1) := dk_29 (dk_at dksX0_spreads_9 22 rfl rfl)
theorem dX0_spreads_233 : decode cX0_spreads 233 = .ok (.invokestatic 337, 3) := dk_184 1 81 (dk_at dksX0_spreads_10 0 rfl rfl)
theorem dX0_spreads_236 : decode cX0_spreads 236 = .ok (.invokevirtual 340, 3) := dk_182 1 84 (dk_at dksX0_spreads_10 3 rfl rfl)
theorem dX0_spreads_239 : decode cX0_spreads 239 = .ok (.iinc 3 1, 3) := dk_132 3 1 (dk_at dksX0_spreads_10 6 rfl rfl)
theorem dX0_spreads_242 : decode cX0_spreads 242 = .ok (.goto (-57), 3) := dk_167 255 199 (dk_at dksX0_spreads_10 9 rfl rfl)
theorem dX0_spreads_245 : decode cX0_spreads 245 = .ok (.return_, 1) := dk_177 (dk_at dksX0_spreads_10 12 rfl rfl)
abbrev cX0_moved : ByteArray := prog_1_method_42_code
def yX0_moved : MethodName := ⟨RX0, "moved", "(III)I"⟩
def dkwX0_moved_0 : List UInt8 := [26, 16, 7, 6, 27, 104, 120, 2, 130, 126, 28, 6, 27, 104, 120, 128, 172]
abbrev dktX0_moved_0 : List UInt8 := dkwX0_moved_0 ++ []
theorem dksX0_moved_0 : cX0_moved.data.toList.drop 0 = dktX0_moved_0 := by decide +kernel
theorem dX0_moved_0 : decode cX0_moved 0 = .ok (.iload_n 0, 1) := dk_26 (dk_at dksX0_moved_0 0 rfl rfl)
theorem dX0_moved_1 : decode cX0_moved 1 = .ok (.bipush 7, 2) := dk_16 7 (dk_at dksX0_moved_0 1 rfl rfl)
theorem dX0_moved_3 : decode cX0_moved 3 = .ok (.iconst 3, 1) := dk_6 (dk_at dksX0_moved_0 3 rfl rfl)
theorem dX0_moved_4 : decode cX0_moved 4 = .ok (.iload_n 1, 1) := dk_27 (dk_at dksX0_moved_0 4 rfl rfl)
theorem dX0_moved_5 : decode cX0_moved 5 = .ok (.imul, 1) := dk_104 (dk_at dksX0_moved_0 5 rfl rfl)
theorem dX0_moved_6 : decode cX0_moved 6 = .ok (.ishl, 1) := dk_120 (dk_at dksX0_moved_0 6 rfl rfl)
theorem dX0_moved_7 : decode cX0_moved 7 = .ok (.iconst (-1), 1) := dk_2 (dk_at dksX0_moved_0 7 rfl rfl)
theorem dX0_moved_8 : decode cX0_moved 8 = .ok (.ixor, 1) := dk_130 (dk_at dksX0_moved_0 8 rfl rfl)
theorem dX0_moved_9 : decode cX0_moved 9 = .ok (.iand, 1) := dk_126 (dk_at dksX0_moved_0 9 rfl rfl)
theorem dX0_moved_10 : decode cX0_moved 10 = .ok (.iload_n 2, 1) := dk_28 (dk_at dksX0_moved_0 10 rfl rfl)
theorem dX0_moved_11 : decode cX0_moved 11 = .ok (.iconst 3, 1) := dk_6 (dk_at dksX0_moved_0 11 rfl rfl)
theorem dX0_moved_12 : decode cX0_moved 12 = .ok (.iload_n 1, 1) := dk_27 (dk_at dksX0_moved_0 12 rfl rfl)
theorem dX0_moved_13 : decode cX0_moved 13 = .ok (.imul, 1) := dk_104 (dk_at dksX0_moved_0 13 rfl rfl)
theorem dX0_moved_14 : decode cX0_moved 14 = .ok (.ishl, 1) := dk_120 (dk_at dksX0_moved_0 14 rfl rfl)
theorem dX0_moved_15 : decode cX0_moved 15 = .ok (.ior, 1) := dk_128 (dk_at dksX0_moved_0 15 rfl rfl)
theorem dX0_moved_16 : decode cX0_moved 16 = .ok (.ireturn, 1) := dk_172 (dk_at dksX0_moved_0 16 rfl rfl)
abbrev cX0_codeOf : ByteArray := prog_1_method_46_code
def yX0_codeOf : MethodName := ⟨RX0, "codeOf", "(III)I"⟩
def dkwX0_codeOf_0 : List UInt8 := [26, 4, 96, 17, 0, 128, 104, 27, 16, 8, 104, 96, 28, 96, 4, 96, 172]
abbrev dktX0_codeOf_0 : List UInt8 := dkwX0_codeOf_0 ++ []
theorem dksX0_codeOf_0 : cX0_codeOf.data.toList.drop 0 = dktX0_codeOf_0 := by decide +kernel
theorem dX0_codeOf_0 : decode cX0_codeOf 0 = .ok (.iload_n 0, 1) := dk_26 (dk_at dksX0_codeOf_0 0 rfl rfl)
theorem dX0_codeOf_1 : decode cX0_codeOf 1 = .ok (.iconst 1, 1) := dk_4 (dk_at dksX0_codeOf_0 1 rfl rfl)
theorem dX0_codeOf_2 : decode cX0_codeOf 2 = .ok (.iadd, 1) := dk_96 (dk_at dksX0_codeOf_0 2 rfl rfl)
theorem dX0_codeOf_3 : decode cX0_codeOf 3 = .ok (.sipush 128, 3) := dk_17 0 128 (dk_at dksX0_codeOf_0 3 rfl rfl)
theorem dX0_codeOf_6 : decode cX0_codeOf 6 = .ok (.imul, 1) := dk_104 (dk_at dksX0_codeOf_0 6 rfl rfl)
theorem dX0_codeOf_7 : decode cX0_codeOf 7 = .ok (.iload_n 1, 1) := dk_27 (dk_at dksX0_codeOf_0 7 rfl rfl)
theorem dX0_codeOf_8 : decode cX0_codeOf 8 = .ok (.bipush 8, 2) := dk_16 8 (dk_at dksX0_codeOf_0 8 rfl rfl)
theorem dX0_codeOf_10 : decode cX0_codeOf 10 = .ok (.imul, 1) := dk_104 (dk_at dksX0_codeOf_0 10 rfl rfl)
theorem dX0_codeOf_11 : decode cX0_codeOf 11 = .ok (.iadd, 1) := dk_96 (dk_at dksX0_codeOf_0 11 rfl rfl)
theorem dX0_codeOf_12 : decode cX0_codeOf 12 = .ok (.iload_n 2, 1) := dk_28 (dk_at dksX0_codeOf_0 12 rfl rfl)
theorem dX0_codeOf_13 : decode cX0_codeOf 13 = .ok (.iadd, 1) := dk_96 (dk_at dksX0_codeOf_0 13 rfl rfl)
theorem dX0_codeOf_14 : decode cX0_codeOf 14 = .ok (.iconst 1, 1) := dk_4 (dk_at dksX0_codeOf_0 14 rfl rfl)
theorem dX0_codeOf_15 : decode cX0_codeOf 15 = .ok (.iadd, 1) := dk_96 (dk_at dksX0_codeOf_0 15 rfl rfl)
theorem dX0_codeOf_16 : decode cX0_codeOf 16 = .ok (.ireturn, 1) := dk_172 (dk_at dksX0_codeOf_0 16 rfl rfl)
abbrev cX0_reaches : ByteArray := prog_1_method_44_code
def yX0_reaches : MethodName := ⟨RX0, "reaches", "(III)V"⟩
def dkwX0_reaches_2 : List UInt8 := [79, 42, 89, 180, 1, 72, 4, 96, 181, 1, 72, 177]
abbrev dktX0_reaches_2 : List UInt8 := dkwX0_reaches_2 ++ []
def dkwX0_reaches_1 : List UInt8 := [79, 42, 180, 0, 95, 27, 28, 79, 42, 180, 0, 98, 27, 29, 79, 42, 180, 0, 101, 42, 180, 1, 72, 27]
abbrev dktX0_reaches_1 : List UInt8 := dkwX0_reaches_1 ++ dktX0_reaches_2
def dkwX0_reaches_0 : List UInt8 := [42, 180, 0, 92, 27, 46, 2, 159, 0, 4, 177, 42, 180, 0, 92, 27, 42, 180, 0, 92, 28, 46, 4, 96]
abbrev dktX0_reaches_0 : List UInt8 := dkwX0_reaches_0 ++ dktX0_reaches_1
theorem dksX0_reaches_0 : cX0_reaches.data.toList.drop 0 = dktX0_reaches_0 := by decide +kernel
theorem dksX0_reaches_1 : cX0_reaches.data.toList.drop 24 = dktX0_reaches_1 := dk_seg dksX0_reaches_0 24 rfl rfl
theorem dksX0_reaches_2 : cX0_reaches.data.toList.drop 48 = dktX0_reaches_2 := dk_seg dksX0_reaches_1 24 rfl rfl
theorem dX0_reaches_0 : decode cX0_reaches 0 = .ok (.aload_n 0, 1) := dk_42 (dk_at dksX0_reaches_0 0 rfl rfl)
theorem dX0_reaches_1 : decode cX0_reaches 1 = .ok (.getfield 92, 3) := dk_180 0 92 (dk_at dksX0_reaches_0 1 rfl rfl)
theorem dX0_reaches_4 : decode cX0_reaches 4 = .ok (.iload_n 1, 1) := dk_27 (dk_at dksX0_reaches_0 4 rfl rfl)
theorem dX0_reaches_5 : decode cX0_reaches 5 = .ok (.iaload, 1) := dk_46 (dk_at dksX0_reaches_0 5 rfl rfl)
theorem dX0_reaches_6 : decode cX0_reaches 6 = .ok (.iconst (-1), 1) := dk_2 (dk_at dksX0_reaches_0 6 rfl rfl)
theorem dX0_reaches_7 : decode cX0_reaches 7 = .ok (.if_icmp .eq 4, 3) := dk_159 0 4 (dk_at dksX0_reaches_0 7 rfl rfl)
theorem dX0_reaches_10 : decode cX0_reaches 10 = .ok (.return_, 1) := dk_177 (dk_at dksX0_reaches_0 10 rfl rfl)
theorem dX0_reaches_11 : decode cX0_reaches 11 = .ok (.aload_n 0, 1) := dk_42 (dk_at dksX0_reaches_0 11 rfl rfl)
theorem dX0_reaches_12 : decode cX0_reaches 12 = .ok (.getfield 92, 3) := dk_180 0 92 (dk_at dksX0_reaches_0 12 rfl rfl)
theorem dX0_reaches_15 : decode cX0_reaches 15 = .ok (.iload_n 1, 1) := dk_27 (dk_at dksX0_reaches_0 15 rfl rfl)
theorem dX0_reaches_16 : decode cX0_reaches 16 = .ok (.aload_n 0, 1) := dk_42 (dk_at dksX0_reaches_0 16 rfl rfl)
theorem dX0_reaches_17 : decode cX0_reaches 17 = .ok (.getfield 92, 3) := dk_180 0 92 (dk_at dksX0_reaches_0 17 rfl rfl)
theorem dX0_reaches_20 : decode cX0_reaches 20 = .ok (.iload_n 2, 1) := dk_28 (dk_at dksX0_reaches_0 20 rfl rfl)
theorem dX0_reaches_21 : decode cX0_reaches 21 = .ok (.iaload, 1) := dk_46 (dk_at dksX0_reaches_0 21 rfl rfl)
theorem dX0_reaches_22 : decode cX0_reaches 22 = .ok (.iconst 1, 1) := dk_4 (dk_at dksX0_reaches_0 22 rfl rfl)
theorem dX0_reaches_23 : decode cX0_reaches 23 = .ok (.iadd, 1) := dk_96 (dk_at dksX0_reaches_0 23 rfl rfl)
theorem dX0_reaches_24 : decode cX0_reaches 24 = .ok (.iastore, 1) := dk_79 (dk_at dksX0_reaches_1 0 rfl rfl)
theorem dX0_reaches_25 : decode cX0_reaches 25 = .ok (.aload_n 0, 1) := dk_42 (dk_at dksX0_reaches_1 1 rfl rfl)
theorem dX0_reaches_26 : decode cX0_reaches 26 = .ok (.getfield 95, 3) := dk_180 0 95 (dk_at dksX0_reaches_1 2 rfl rfl)
theorem dX0_reaches_29 : decode cX0_reaches 29 = .ok (.iload_n 1, 1) := dk_27 (dk_at dksX0_reaches_1 5 rfl rfl)
theorem dX0_reaches_30 : decode cX0_reaches 30 = .ok (.iload_n 2, 1) := dk_28 (dk_at dksX0_reaches_1 6 rfl rfl)
theorem dX0_reaches_31 : decode cX0_reaches 31 = .ok (.iastore, 1) := dk_79 (dk_at dksX0_reaches_1 7 rfl rfl)
theorem dX0_reaches_32 : decode cX0_reaches 32 = .ok (.aload_n 0, 1) := dk_42 (dk_at dksX0_reaches_1 8 rfl rfl)
theorem dX0_reaches_33 : decode cX0_reaches 33 = .ok (.getfield 98, 3) := dk_180 0 98 (dk_at dksX0_reaches_1 9 rfl rfl)
theorem dX0_reaches_36 : decode cX0_reaches 36 = .ok (.iload_n 1, 1) := dk_27 (dk_at dksX0_reaches_1 12 rfl rfl)
theorem dX0_reaches_37 : decode cX0_reaches 37 = .ok (.iload_n 3, 1) := dk_29 (dk_at dksX0_reaches_1 13 rfl rfl)
theorem dX0_reaches_38 : decode cX0_reaches 38 = .ok (.iastore, 1) := dk_79 (dk_at dksX0_reaches_1 14 rfl rfl)
theorem dX0_reaches_39 : decode cX0_reaches 39 = .ok (.aload_n 0, 1) := dk_42 (dk_at dksX0_reaches_1 15 rfl rfl)
theorem dX0_reaches_40 : decode cX0_reaches 40 = .ok (.getfield 101, 3) := dk_180 0 101 (dk_at dksX0_reaches_1 16 rfl rfl)
theorem dX0_reaches_43 : decode cX0_reaches 43 = .ok (.aload_n 0, 1) := dk_42 (dk_at dksX0_reaches_1 19 rfl rfl)
theorem dX0_reaches_44 : decode cX0_reaches 44 = .ok (.getfield 328, 3) := dk_180 1 72 (dk_at dksX0_reaches_1 20 rfl rfl)
theorem dX0_reaches_47 : decode cX0_reaches 47 = .ok (.iload_n 1, 1) := dk_27 (dk_at dksX0_reaches_1 23 rfl rfl)
theorem dX0_reaches_48 : decode cX0_reaches 48 = .ok (.iastore, 1) := dk_79 (dk_at dksX0_reaches_2 0 rfl rfl)
theorem dX0_reaches_49 : decode cX0_reaches 49 = .ok (.aload_n 0, 1) := dk_42 (dk_at dksX0_reaches_2 1 rfl rfl)
theorem dX0_reaches_50 : decode cX0_reaches 50 = .ok (.dup, 1) := dk_89 (dk_at dksX0_reaches_2 2 rfl rfl)
theorem dX0_reaches_51 : decode cX0_reaches 51 = .ok (.getfield 328, 3) := dk_180 1 72 (dk_at dksX0_reaches_2 3 rfl rfl)
theorem dX0_reaches_54 : decode cX0_reaches 54 = .ok (.iconst 1, 1) := dk_4 (dk_at dksX0_reaches_2 6 rfl rfl)
theorem dX0_reaches_55 : decode cX0_reaches 55 = .ok (.iadd, 1) := dk_96 (dk_at dksX0_reaches_2 7 rfl rfl)
theorem dX0_reaches_56 : decode cX0_reaches 56 = .ok (.putfield 328, 3) := dk_181 1 72 (dk_at dksX0_reaches_2 8 rfl rfl)
theorem dX0_reaches_59 : decode cX0_reaches 59 = .ok (.return_, 1) := dk_177 (dk_at dksX0_reaches_2 11 rfl rfl)
abbrev cX0_passing : ByteArray := prog_1_method_51_code
def yX0_passing : MethodName := ⟨RX0, "passing", "(III)I"⟩
def dkwX0_passing_5 : List UInt8 := [29, 4, 160, 0, 14, 21, 6, 16, 8, 108, 16, 16, 112, 167, 0, 10, 21, 6, 16, 8, 112, 4, 100, 172]
abbrev dktX0_passing_5 : List UInt8 := dkwX0_passing_5 ++ []
def dkwX0_passing_4 : List UInt8 := [42, 180, 0, 98, 21, 5, 46, 54, 6, 29, 154, 0, 14, 21, 6, 17, 0, 128, 108, 4, 100, 167, 0, 26]
abbrev dktX0_passing_4 : List UInt8 := dkwX0_passing_4 ++ dktX0_passing_5
def dkwX0_passing_3 : List UInt8 := [180, 0, 92, 21, 5, 46, 28, 4, 96, 164, 0, 15, 42, 180, 0, 95, 21, 5, 46, 54, 5, 167, 255, 234]
abbrev dktX0_passing_3 : List UInt8 := dkwX0_passing_3 ++ dktX0_passing_4
def dkwX0_passing_2 : List UInt8 := [159, 0, 14, 28, 42, 180, 0, 92, 21, 4, 46, 161, 0, 6, 16, 254, 172, 21, 4, 54, 5, 42]
abbrev dktX0_passing_2 : List UInt8 := dkwX0_passing_2 ++ dktX0_passing_3
def dkwX0_passing_1 : List UInt8 := [16, 253, 172, 42, 42, 182, 1, 93, 42, 180, 0, 12, 182, 0, 125, 27, 182, 1, 96, 54, 4, 21, 4, 2]
abbrev dktX0_passing_1 : List UInt8 := dkwX0_passing_1 ++ dktX0_passing_2
def dkwX0_passing_0 : List UInt8 := [42, 27, 182, 1, 99, 153, 0, 19, 28, 155, 0, 15, 29, 133, 9, 20, 1, 105, 184, 0, 129, 154, 0, 6]
abbrev dktX0_passing_0 : List UInt8 := dkwX0_passing_0 ++ dktX0_passing_1
theorem dksX0_passing_0 : cX0_passing.data.toList.drop 0 = dktX0_passing_0 := by decide +kernel
theorem dksX0_passing_1 : cX0_passing.data.toList.drop 24 = dktX0_passing_1 := dk_seg dksX0_passing_0 24 rfl rfl
theorem dksX0_passing_2 : cX0_passing.data.toList.drop 48 = dktX0_passing_2 := dk_seg dksX0_passing_1 24 rfl rfl
theorem dksX0_passing_3 : cX0_passing.data.toList.drop 70 = dktX0_passing_3 := dk_seg dksX0_passing_2 22 rfl rfl
theorem dksX0_passing_4 : cX0_passing.data.toList.drop 94 = dktX0_passing_4 := dk_seg dksX0_passing_3 24 rfl rfl
theorem dksX0_passing_5 : cX0_passing.data.toList.drop 118 = dktX0_passing_5 := dk_seg dksX0_passing_4 24 rfl rfl
theorem dX0_passing_0 : decode cX0_passing 0 = .ok (.aload_n 0, 1) := dk_42 (dk_at dksX0_passing_0 0 rfl rfl)
theorem dX0_passing_1 : decode cX0_passing 1 = .ok (.iload_n 1, 1) := dk_27 (dk_at dksX0_passing_0 1 rfl rfl)
theorem dX0_passing_2 : decode cX0_passing 2 = .ok (.invokevirtual 355, 3) := dk_182 1 99 (dk_at dksX0_passing_0 2 rfl rfl)
theorem dX0_passing_5 : decode cX0_passing 5 = .ok (.ifCond .eq 19, 3) := dk_153 0 19 (dk_at dksX0_passing_0 5 rfl rfl)
theorem dX0_passing_8 : decode cX0_passing 8 = .ok (.iload_n 2, 1) := dk_28 (dk_at dksX0_passing_0 8 rfl rfl)
theorem dX0_passing_9 : decode cX0_passing 9 = .ok (.ifCond .lt 15, 3) := dk_155 0 15 (dk_at dksX0_passing_0 9 rfl rfl)
theorem dX0_passing_12 : decode cX0_passing 12 = .ok (.iload_n 3, 1) := dk_29 (dk_at dksX0_passing_0 12 rfl rfl)
theorem dX0_passing_13 : decode cX0_passing 13 = .ok (.i2l, 1) := dk_133 (dk_at dksX0_passing_0 13 rfl rfl)
theorem dX0_passing_14 : decode cX0_passing 14 = .ok (.lconst 0, 1) := dk_9 (dk_at dksX0_passing_0 14 rfl rfl)
theorem dX0_passing_15 : decode cX0_passing 15 = .ok (.ldc2_w 361, 3) := dk_20 1 105 (dk_at dksX0_passing_0 15 rfl rfl)
theorem dX0_passing_18 : decode cX0_passing 18 = .ok (.invokestatic 129, 3) := dk_184 0 129 (dk_at dksX0_passing_0 18 rfl rfl)
theorem dX0_passing_21 : decode cX0_passing 21 = .ok (.ifCond .ne 6, 3) := dk_154 0 6 (dk_at dksX0_passing_0 21 rfl rfl)
theorem dX0_passing_24 : decode cX0_passing 24 = .ok (.bipush (-3), 2) := dk_16 253 (dk_at dksX0_passing_1 0 rfl rfl)
theorem dX0_passing_26 : decode cX0_passing 26 = .ok (.ireturn, 1) := dk_172 (dk_at dksX0_passing_1 2 rfl rfl)
theorem dX0_passing_27 : decode cX0_passing 27 = .ok (.aload_n 0, 1) := dk_42 (dk_at dksX0_passing_1 3 rfl rfl)
theorem dX0_passing_28 : decode cX0_passing 28 = .ok (.aload_n 0, 1) := dk_42 (dk_at dksX0_passing_1 4 rfl rfl)
theorem dX0_passing_29 : decode cX0_passing 29 = .ok (.invokevirtual 349, 3) := dk_182 1 93 (dk_at dksX0_passing_1 5 rfl rfl)
theorem dX0_passing_32 : decode cX0_passing 32 = .ok (.aload_n 0, 1) := dk_42 (dk_at dksX0_passing_1 8 rfl rfl)
theorem dX0_passing_33 : decode cX0_passing 33 = .ok (.getfield 12, 3) := dk_180 0 12 (dk_at dksX0_passing_1 9 rfl rfl)
theorem dX0_passing_36 : decode cX0_passing 36 = .ok (.invokevirtual 125, 3) := dk_182 0 125 (dk_at dksX0_passing_1 12 rfl rfl)
theorem dX0_passing_39 : decode cX0_passing 39 = .ok (.iload_n 1, 1) := dk_27 (dk_at dksX0_passing_1 15 rfl rfl)
theorem dX0_passing_40 : decode cX0_passing 40 = .ok (.invokevirtual 352, 3) := dk_182 1 96 (dk_at dksX0_passing_1 16 rfl rfl)
theorem dX0_passing_43 : decode cX0_passing 43 = .ok (.istore 4, 2) := dk_54 4 (dk_at dksX0_passing_1 19 rfl rfl)
theorem dX0_passing_45 : decode cX0_passing 45 = .ok (.iload 4, 2) := dk_21 4 (dk_at dksX0_passing_1 21 rfl rfl)
theorem dX0_passing_47 : decode cX0_passing 47 = .ok (.iconst (-1), 1) := dk_2 (dk_at dksX0_passing_1 23 rfl rfl)
theorem dX0_passing_48 : decode cX0_passing 48 = .ok (.if_icmp .eq 14, 3) := dk_159 0 14 (dk_at dksX0_passing_2 0 rfl rfl)
theorem dX0_passing_51 : decode cX0_passing 51 = .ok (.iload_n 2, 1) := dk_28 (dk_at dksX0_passing_2 3 rfl rfl)
theorem dX0_passing_52 : decode cX0_passing 52 = .ok (.aload_n 0, 1) := dk_42 (dk_at dksX0_passing_2 4 rfl rfl)
theorem dX0_passing_53 : decode cX0_passing 53 = .ok (.getfield 92, 3) := dk_180 0 92 (dk_at dksX0_passing_2 5 rfl rfl)
theorem dX0_passing_56 : decode cX0_passing 56 = .ok (.iload 4, 2) := dk_21 4 (dk_at dksX0_passing_2 8 rfl rfl)
theorem dX0_passing_58 : decode cX0_passing 58 = .ok (.iaload, 1) := dk_46 (dk_at dksX0_passing_2 10 rfl rfl)
theorem dX0_passing_59 : decode cX0_passing 59 = .ok (.if_icmp .lt 6, 3) := dk_161 0 6 (dk_at dksX0_passing_2 11 rfl rfl)
theorem dX0_passing_62 : decode cX0_passing 62 = .ok (.bipush (-2), 2) := dk_16 254 (dk_at dksX0_passing_2 14 rfl rfl)
theorem dX0_passing_64 : decode cX0_passing 64 = .ok (.ireturn, 1) := dk_172 (dk_at dksX0_passing_2 16 rfl rfl)
theorem dX0_passing_65 : decode cX0_passing 65 = .ok (.iload 4, 2) := dk_21 4 (dk_at dksX0_passing_2 17 rfl rfl)
theorem dX0_passing_67 : decode cX0_passing 67 = .ok (.istore 5, 2) := dk_54 5 (dk_at dksX0_passing_2 19 rfl rfl)
theorem dX0_passing_69 : decode cX0_passing 69 = .ok (.aload_n 0, 1) := dk_42 (dk_at dksX0_passing_2 21 rfl rfl)
theorem dX0_passing_70 : decode cX0_passing 70 = .ok (.getfield 92, 3) := dk_180 0 92 (dk_at dksX0_passing_3 0 rfl rfl)
theorem dX0_passing_73 : decode cX0_passing 73 = .ok (.iload 5, 2) := dk_21 5 (dk_at dksX0_passing_3 3 rfl rfl)
theorem dX0_passing_75 : decode cX0_passing 75 = .ok (.iaload, 1) := dk_46 (dk_at dksX0_passing_3 5 rfl rfl)
theorem dX0_passing_76 : decode cX0_passing 76 = .ok (.iload_n 2, 1) := dk_28 (dk_at dksX0_passing_3 6 rfl rfl)
theorem dX0_passing_77 : decode cX0_passing 77 = .ok (.iconst 1, 1) := dk_4 (dk_at dksX0_passing_3 7 rfl rfl)
theorem dX0_passing_78 : decode cX0_passing 78 = .ok (.iadd, 1) := dk_96 (dk_at dksX0_passing_3 8 rfl rfl)
theorem dX0_passing_79 : decode cX0_passing 79 = .ok (.if_icmp .le 15, 3) := dk_164 0 15 (dk_at dksX0_passing_3 9 rfl rfl)
theorem dX0_passing_82 : decode cX0_passing 82 = .ok (.aload_n 0, 1) := dk_42 (dk_at dksX0_passing_3 12 rfl rfl)
theorem dX0_passing_83 : decode cX0_passing 83 = .ok (.getfield 95, 3) := dk_180 0 95 (dk_at dksX0_passing_3 13 rfl rfl)
theorem dX0_passing_86 : decode cX0_passing 86 = .ok (.iload 5, 2) := dk_21 5 (dk_at dksX0_passing_3 16 rfl rfl)
theorem dX0_passing_88 : decode cX0_passing 88 = .ok (.iaload, 1) := dk_46 (dk_at dksX0_passing_3 18 rfl rfl)
theorem dX0_passing_89 : decode cX0_passing 89 = .ok (.istore 5, 2) := dk_54 5 (dk_at dksX0_passing_3 19 rfl rfl)
theorem dX0_passing_91 : decode cX0_passing 91 = .ok (.goto (-22), 3) := dk_167 255 234 (dk_at dksX0_passing_3 21 rfl rfl)
theorem dX0_passing_94 : decode cX0_passing 94 = .ok (.aload_n 0, 1) := dk_42 (dk_at dksX0_passing_4 0 rfl rfl)
theorem dX0_passing_95 : decode cX0_passing 95 = .ok (.getfield 98, 3) := dk_180 0 98 (dk_at dksX0_passing_4 1 rfl rfl)
theorem dX0_passing_98 : decode cX0_passing 98 = .ok (.iload 5, 2) := dk_21 5 (dk_at dksX0_passing_4 4 rfl rfl)
theorem dX0_passing_100 : decode cX0_passing 100 = .ok (.iaload, 1) := dk_46 (dk_at dksX0_passing_4 6 rfl rfl)
theorem dX0_passing_101 : decode cX0_passing 101 = .ok (.istore 6, 2) := dk_54 6 (dk_at dksX0_passing_4 7 rfl rfl)
theorem dX0_passing_103 : decode cX0_passing 103 = .ok (.iload_n 3, 1) := dk_29 (dk_at dksX0_passing_4 9 rfl rfl)
theorem dX0_passing_104 : decode cX0_passing 104 = .ok (.ifCond .ne 14, 3) := dk_154 0 14 (dk_at dksX0_passing_4 10 rfl rfl)
theorem dX0_passing_107 : decode cX0_passing 107 = .ok (.iload 6, 2) := dk_21 6 (dk_at dksX0_passing_4 13 rfl rfl)
theorem dX0_passing_109 : decode cX0_passing 109 = .ok (.sipush 128, 3) := dk_17 0 128 (dk_at dksX0_passing_4 15 rfl rfl)
theorem dX0_passing_112 : decode cX0_passing 112 = .ok (.idiv, 1) := dk_108 (dk_at dksX0_passing_4 18 rfl rfl)
theorem dX0_passing_113 : decode cX0_passing 113 = .ok (.iconst 1, 1) := dk_4 (dk_at dksX0_passing_4 19 rfl rfl)
theorem dX0_passing_114 : decode cX0_passing 114 = .ok (.isub, 1) := dk_100 (dk_at dksX0_passing_4 20 rfl rfl)
theorem dX0_passing_115 : decode cX0_passing 115 = .ok (.goto 26, 3) := dk_167 0 26 (dk_at dksX0_passing_4 21 rfl rfl)
theorem dX0_passing_118 : decode cX0_passing 118 = .ok (.iload_n 3, 1) := dk_29 (dk_at dksX0_passing_5 0 rfl rfl)
theorem dX0_passing_119 : decode cX0_passing 119 = .ok (.iconst 1, 1) := dk_4 (dk_at dksX0_passing_5 1 rfl rfl)
theorem dX0_passing_120 : decode cX0_passing 120 = .ok (.if_icmp .ne 14, 3) := dk_160 0 14 (dk_at dksX0_passing_5 2 rfl rfl)
theorem dX0_passing_123 : decode cX0_passing 123 = .ok (.iload 6, 2) := dk_21 6 (dk_at dksX0_passing_5 5 rfl rfl)
theorem dX0_passing_125 : decode cX0_passing 125 = .ok (.bipush 8, 2) := dk_16 8 (dk_at dksX0_passing_5 7 rfl rfl)
theorem dX0_passing_127 : decode cX0_passing 127 = .ok (.idiv, 1) := dk_108 (dk_at dksX0_passing_5 9 rfl rfl)
theorem dX0_passing_128 : decode cX0_passing 128 = .ok (.bipush 16, 2) := dk_16 16 (dk_at dksX0_passing_5 10 rfl rfl)
theorem dX0_passing_130 : decode cX0_passing 130 = .ok (.irem, 1) := dk_112 (dk_at dksX0_passing_5 12 rfl rfl)
theorem dX0_passing_131 : decode cX0_passing 131 = .ok (.goto 10, 3) := dk_167 0 10 (dk_at dksX0_passing_5 13 rfl rfl)
theorem dX0_passing_134 : decode cX0_passing 134 = .ok (.iload 6, 2) := dk_21 6 (dk_at dksX0_passing_5 16 rfl rfl)
theorem dX0_passing_136 : decode cX0_passing 136 = .ok (.bipush 8, 2) := dk_16 8 (dk_at dksX0_passing_5 18 rfl rfl)
theorem dX0_passing_138 : decode cX0_passing 138 = .ok (.irem, 1) := dk_112 (dk_at dksX0_passing_5 20 rfl rfl)
theorem dX0_passing_139 : decode cX0_passing 139 = .ok (.iconst 1, 1) := dk_4 (dk_at dksX0_passing_5 21 rfl rfl)
theorem dX0_passing_140 : decode cX0_passing 140 = .ok (.isub, 1) := dk_100 (dk_at dksX0_passing_5 22 rfl rfl)
theorem dX0_passing_141 : decode cX0_passing 141 = .ok (.ireturn, 1) := dk_172 (dk_at dksX0_passing_5 23 rfl rfl)
abbrev cX0_caught : ByteArray := prog_1_method_52_code
def yX0_caught : MethodName := ⟨RX0, "caught", "(I)I"⟩
def dkwX0_caught_6 : List UInt8 := [21, 4, 120, 2, 130, 126, 61, 132, 4, 1, 167, 255, 182, 132, 3, 1, 167, 255, 148, 28, 172]
abbrev dktX0_caught_6 : List UInt8 := dkwX0_caught_6 ++ []
def dkwX0_caught_5 : List UInt8 := [160, 0, 30, 167, 0, 18, 21, 5, 42, 180, 0, 19, 180, 0, 202, 21, 4, 46, 159, 0, 12, 28, 4]
abbrev dktX0_caught_5 : List UInt8 := dkwX0_caught_5 ++ dktX0_caught_6
def dkwX0_caught_4 : List UInt8 := [21, 4, 184, 1, 75, 54, 5, 27, 154, 0, 21, 21, 5, 42, 180, 0, 19, 180, 0, 192, 21, 4, 46]
abbrev dktX0_caught_4 : List UInt8 := dkwX0_caught_4 ++ dktX0_caught_5
def dkwX0_caught_3 : List UInt8 := [182, 1, 90, 3, 54, 4, 21, 4, 42, 180, 0, 12, 182, 0, 125, 162, 0, 68, 42, 180, 0, 101, 29, 46]
abbrev dktX0_caught_3 : List UInt8 := dkwX0_caught_3 ++ dktX0_caught_4
def dkwX0_caught_2 : List UInt8 := [3, 62, 29, 42, 180, 1, 72, 162, 0, 106, 42, 42, 180, 0, 101, 29, 46, 42, 180, 0, 12, 182, 0, 125]
abbrev dktX0_caught_2 : List UInt8 := dkwX0_caught_2 ++ dktX0_caught_3
def dkwX0_caught_1 : List UInt8 := [42, 180, 0, 12, 182, 0, 125, 3, 182, 1, 96, 87, 4, 42, 180, 0, 12, 182, 0, 125, 120, 4, 100, 61]
abbrev dktX0_caught_1 : List UInt8 := dkwX0_caught_1 ++ dktX0_caught_2
def dkwX0_caught_0 : List UInt8 := [42, 182, 0, 139, 153, 0, 13, 27, 133, 9, 10, 184, 0, 129, 154, 0, 5, 2, 172, 42, 42, 182, 1, 93]
abbrev dktX0_caught_0 : List UInt8 := dkwX0_caught_0 ++ dktX0_caught_1
theorem dksX0_caught_0 : cX0_caught.data.toList.drop 0 = dktX0_caught_0 := by decide +kernel
theorem dksX0_caught_1 : cX0_caught.data.toList.drop 24 = dktX0_caught_1 := dk_seg dksX0_caught_0 24 rfl rfl
theorem dksX0_caught_2 : cX0_caught.data.toList.drop 48 = dktX0_caught_2 := dk_seg dksX0_caught_1 24 rfl rfl
theorem dksX0_caught_3 : cX0_caught.data.toList.drop 72 = dktX0_caught_3 := dk_seg dksX0_caught_2 24 rfl rfl
theorem dksX0_caught_4 : cX0_caught.data.toList.drop 96 = dktX0_caught_4 := dk_seg dksX0_caught_3 24 rfl rfl
theorem dksX0_caught_5 : cX0_caught.data.toList.drop 119 = dktX0_caught_5 := dk_seg dksX0_caught_4 23 rfl rfl
theorem dksX0_caught_6 : cX0_caught.data.toList.drop 142 = dktX0_caught_6 := dk_seg dksX0_caught_5 23 rfl rfl
theorem dX0_caught_0 : decode cX0_caught 0 = .ok (.aload_n 0, 1) := dk_42 (dk_at dksX0_caught_0 0 rfl rfl)
theorem dX0_caught_1 : decode cX0_caught 1 = .ok (.invokevirtual 139, 3) := dk_182 0 139 (dk_at dksX0_caught_0 1 rfl rfl)
theorem dX0_caught_4 : decode cX0_caught 4 = .ok (.ifCond .eq 13, 3) := dk_153 0 13 (dk_at dksX0_caught_0 4 rfl rfl)
theorem dX0_caught_7 : decode cX0_caught 7 = .ok (.iload_n 1, 1) := dk_27 (dk_at dksX0_caught_0 7 rfl rfl)
theorem dX0_caught_8 : decode cX0_caught 8 = .ok (.i2l, 1) := dk_133 (dk_at dksX0_caught_0 8 rfl rfl)
theorem dX0_caught_9 : decode cX0_caught 9 = .ok (.lconst 0, 1) := dk_9 (dk_at dksX0_caught_0 9 rfl rfl)
theorem dX0_caught_10 : decode cX0_caught 10 = .ok (.lconst 1, 1) := dk_10 (dk_at dksX0_caught_0 10 rfl rfl)
theorem dX0_caught_11 : decode cX0_caught 11 = .ok (.invokestatic 129, 3) := dk_184 0 129 (dk_at dksX0_caught_0 11 rfl rfl)
theorem dX0_caught_14 : decode cX0_caught 14 = .ok (.ifCond .ne 5, 3) := dk_154 0 5 (dk_at dksX0_caught_0 14 rfl rfl)
theorem dX0_caught_17 : decode cX0_caught 17 = .ok (.iconst (-1), 1) := dk_2 (dk_at dksX0_caught_0 17 rfl rfl)
theorem dX0_caught_18 : decode cX0_caught 18 = .ok (.ireturn, 1) := dk_172 (dk_at dksX0_caught_0 18 rfl rfl)
theorem dX0_caught_19 : decode cX0_caught 19 = .ok (.aload_n 0, 1) := dk_42 (dk_at dksX0_caught_0 19 rfl rfl)
theorem dX0_caught_20 : decode cX0_caught 20 = .ok (.aload_n 0, 1) := dk_42 (dk_at dksX0_caught_0 20 rfl rfl)
theorem dX0_caught_21 : decode cX0_caught 21 = .ok (.invokevirtual 349, 3) := dk_182 1 93 (dk_at dksX0_caught_0 21 rfl rfl)
theorem dX0_caught_24 : decode cX0_caught 24 = .ok (.aload_n 0, 1) := dk_42 (dk_at dksX0_caught_1 0 rfl rfl)
theorem dX0_caught_25 : decode cX0_caught 25 = .ok (.getfield 12, 3) := dk_180 0 12 (dk_at dksX0_caught_1 1 rfl rfl)
theorem dX0_caught_28 : decode cX0_caught 28 = .ok (.invokevirtual 125, 3) := dk_182 0 125 (dk_at dksX0_caught_1 4 rfl rfl)
theorem dX0_caught_31 : decode cX0_caught 31 = .ok (.iconst 0, 1) := dk_3 (dk_at dksX0_caught_1 7 rfl rfl)
theorem dX0_caught_32 : decode cX0_caught 32 = .ok (.invokevirtual 352, 3) := dk_182 1 96 (dk_at dksX0_caught_1 8 rfl rfl)
theorem dX0_caught_35 : decode cX0_caught 35 = .ok (.pop, 1) := dk_87 (dk_at dksX0_caught_1 11 rfl rfl)
theorem dX0_caught_36 : decode cX0_caught 36 = .ok (.iconst 1, 1) := dk_4 (dk_at dksX0_caught_1 12 rfl rfl)
theorem dX0_caught_37 : decode cX0_caught 37 = .ok (.aload_n 0, 1) := dk_42 (dk_at dksX0_caught_1 13 rfl rfl)
theorem dX0_caught_38 : decode cX0_caught 38 = .ok (.getfield 12, 3) := dk_180 0 12 (dk_at dksX0_caught_1 14 rfl rfl)
theorem dX0_caught_41 : decode cX0_caught 41 = .ok (.invokevirtual 125, 3) := dk_182 0 125 (dk_at dksX0_caught_1 17 rfl rfl)
theorem dX0_caught_44 : decode cX0_caught 44 = .ok (.ishl, 1) := dk_120 (dk_at dksX0_caught_1 20 rfl rfl)
theorem dX0_caught_45 : decode cX0_caught 45 = .ok (.iconst 1, 1) := dk_4 (dk_at dksX0_caught_1 21 rfl rfl)
theorem dX0_caught_46 : decode cX0_caught 46 = .ok (.isub, 1) := dk_100 (dk_at dksX0_caught_1 22 rfl rfl)
theorem dX0_caught_47 : decode cX0_caught 47 = .ok (.istore_n 2, 1) := dk_61 (dk_at dksX0_caught_1 23 rfl rfl)
theorem dX0_caught_48 : decode cX0_caught 48 = .ok (.iconst 0, 1) := dk_3 (dk_at dksX0_caught_2 0 rfl rfl)
theorem dX0_caught_49 : decode cX0_caught 49 = .ok (.istore_n 3, 1) := dk_62 (dk_at dksX0_caught_2 1 rfl rfl)
theorem dX0_caught_50 : decode cX0_caught 50 = .ok (.iload_n 3, 1) := dk_29 (dk_at dksX0_caught_2 2 rfl rfl)
theorem dX0_caught_51 : decode cX0_caught 51 = .ok (.aload_n 0, 1) := dk_42 (dk_at dksX0_caught_2 3 rfl rfl)
theorem dX0_caught_52 : decode cX0_caught 52 = .ok (.getfield 328, 3) := dk_180 1 72 (dk_at dksX0_caught_2 4 rfl rfl)
theorem dX0_caught_55 : decode cX0_caught 55 = .ok (.if_icmp .ge 106, 3) := dk_162 0 106 (dk_at dksX0_caught_2 7 rfl rfl)
theorem dX0_caught_58 : decode cX0_caught 58 = .ok (.aload_n 0, 1) := dk_42 (dk_at dksX0_caught_2 10 rfl rfl)
theorem dX0_caught_59 : decode cX0_caught 59 = .ok (.aload_n 0, 1) := dk_42 (dk_at dksX0_caught_2 11 rfl rfl)
theorem dX0_caught_60 : decode cX0_caught 60 = .ok (.getfield 101, 3) := dk_180 0 101 (dk_at dksX0_caught_2 12 rfl rfl)
theorem dX0_caught_63 : decode cX0_caught 63 = .ok (.iload_n 3, 1) := dk_29 (dk_at dksX0_caught_2 15 rfl rfl)
theorem dX0_caught_64 : decode cX0_caught 64 = .ok (.iaload, 1) := dk_46 (dk_at dksX0_caught_2 16 rfl rfl)
theorem dX0_caught_65 : decode cX0_caught 65 = .ok (.aload_n 0, 1) := dk_42 (dk_at dksX0_caught_2 17 rfl rfl)
theorem dX0_caught_66 : decode cX0_caught 66 = .ok (.getfield 12, 3) := dk_180 0 12 (dk_at dksX0_caught_2 18 rfl rfl)
theorem dX0_caught_69 : decode cX0_caught 69 = .ok (.invokevirtual 125, 3) := dk_182 0 125 (dk_at dksX0_caught_2 21 rfl rfl)
theorem dX0_caught_72 : decode cX0_caught 72 = .ok (.invokevirtual 346, 3) := dk_182 1 90 (dk_at dksX0_caught_3 0 rfl rfl)
theorem dX0_caught_75 : decode cX0_caught 75 = .ok (.iconst 0, 1) := dk_3 (dk_at dksX0_caught_3 3 rfl rfl)
theorem dX0_caught_76 : decode cX0_caught 76 = .ok (.istore 4, 2) := dk_54 4 (dk_at dksX0_caught_3 4 rfl rfl)
theorem dX0_caught_78 : decode cX0_caught 78 = .ok (.iload 4, 2) := dk_21 4 (dk_at dksX0_caught_3 6 rfl rfl)
theorem dX0_caught_80 : decode cX0_caught 80 = .ok (.aload_n 0, 1) := dk_42 (dk_at dksX0_caught_3 8 rfl rfl)
theorem dX0_caught_81 : decode cX0_caught 81 = .ok (.getfield 12, 3) := dk_180 0 12 (dk_at dksX0_caught_3 9 rfl rfl)
theorem dX0_caught_84 : decode cX0_caught 84 = .ok (.invokevirtual 125, 3) := dk_182 0 125 (dk_at dksX0_caught_3 12 rfl rfl)
theorem dX0_caught_87 : decode cX0_caught 87 = .ok (.if_icmp .ge 68, 3) := dk_162 0 68 (dk_at dksX0_caught_3 15 rfl rfl)
theorem dX0_caught_90 : decode cX0_caught 90 = .ok (.aload_n 0, 1) := dk_42 (dk_at dksX0_caught_3 18 rfl rfl)
theorem dX0_caught_91 : decode cX0_caught 91 = .ok (.getfield 101, 3) := dk_180 0 101 (dk_at dksX0_caught_3 19 rfl rfl)
theorem dX0_caught_94 : decode cX0_caught 94 = .ok (.iload_n 3, 1) := dk_29 (dk_at dksX0_caught_3 22 rfl rfl)
theorem dX0_caught_95 : decode cX0_caught 95 = .ok (.iaload, 1) := dk_46 (dk_at dksX0_caught_3 23 rfl rfl)
theorem dX0_caught_96 : decode cX0_caught 96 = .ok (.iload 4, 2) := dk_21 4 (dk_at dksX0_caught_4 0 rfl rfl)
theorem dX0_caught_98 : decode cX0_caught 98 = .ok (.invokestatic 331, 3) := dk_184 1 75 (dk_at dksX0_caught_4 2 rfl rfl)
theorem dX0_caught_101 : decode cX0_caught 101 = .ok (.istore 5, 2) := dk_54 5 (dk_at dksX0_caught_4 5 rfl rfl)
theorem dX0_caught_103 : decode cX0_caught 103 = .ok (.iload_n 1, 1) := dk_27 (dk_at dksX0_caught_4 7 rfl rfl)
theorem dX0_caught_104 : decode cX0_caught 104 = .ok (.ifCond .ne 21, 3) := dk_154 0 21 (dk_at dksX0_caught_4 8 rfl rfl)
theorem dX0_caught_107 : decode cX0_caught 107 = .ok (.iload 5, 2) := dk_21 5 (dk_at dksX0_caught_4 11 rfl rfl)
theorem dX0_caught_109 : decode cX0_caught 109 = .ok (.aload_n 0, 1) := dk_42 (dk_at dksX0_caught_4 13 rfl rfl)
theorem dX0_caught_110 : decode cX0_caught 110 = .ok (.getfield 19, 3) := dk_180 0 19 (dk_at dksX0_caught_4 14 rfl rfl)
theorem dX0_caught_113 : decode cX0_caught 113 = .ok (.getfield 192, 3) := dk_180 0 192 (dk_at dksX0_caught_4 17 rfl rfl)
theorem dX0_caught_116 : decode cX0_caught 116 = .ok (.iload 4, 2) := dk_21 4 (dk_at dksX0_caught_4 20 rfl rfl)
theorem dX0_caught_118 : decode cX0_caught 118 = .ok (.iaload, 1) := dk_46 (dk_at dksX0_caught_4 22 rfl rfl)
theorem dX0_caught_119 : decode cX0_caught 119 = .ok (.if_icmp .ne 30, 3) := dk_160 0 30 (dk_at dksX0_caught_5 0 rfl rfl)
theorem dX0_caught_122 : decode cX0_caught 122 = .ok (.goto 18, 3) := dk_167 0 18 (dk_at dksX0_caught_5 3 rfl rfl)
theorem dX0_caught_125 : decode cX0_caught 125 = .ok (.iload 5, 2) := dk_21 5 (dk_at dksX0_caught_5 6 rfl rfl)
theorem dX0_caught_127 : decode cX0_caught 127 = .ok (.aload_n 0, 1) := dk_42 (dk_at dksX0_caught_5 8 rfl rfl)
theorem dX0_caught_128 : decode cX0_caught 128 = .ok (.getfield 19, 3) := dk_180 0 19 (dk_at dksX0_caught_5 9 rfl rfl)
theorem dX0_caught_131 : decode cX0_caught 131 = .ok (.getfield 202, 3) := dk_180 0 202 (dk_at dksX0_caught_5 12 rfl rfl)
theorem dX0_caught_134 : decode cX0_caught 134 = .ok (.iload 4, 2) := dk_21 4 (dk_at dksX0_caught_5 15 rfl rfl)
theorem dX0_caught_136 : decode cX0_caught 136 = .ok (.iaload, 1) := dk_46 (dk_at dksX0_caught_5 17 rfl rfl)
theorem dX0_caught_137 : decode cX0_caught 137 = .ok (.if_icmp .eq 12, 3) := dk_159 0 12 (dk_at dksX0_caught_5 18 rfl rfl)
theorem dX0_caught_140 : decode cX0_caught 140 = .ok (.iload_n 2, 1) := dk_28 (dk_at dksX0_caught_5 21 rfl rfl)
theorem dX0_caught_141 : decode cX0_caught 141 = .ok (.iconst 1, 1) := dk_4 (dk_at dksX0_caught_5 22 rfl rfl)
theorem dX0_caught_142 : decode cX0_caught 142 = .ok (.iload 4, 2) := dk_21 4 (dk_at dksX0_caught_6 0 rfl rfl)
theorem dX0_caught_144 : decode cX0_caught 144 = .ok (.ishl, 1) := dk_120 (dk_at dksX0_caught_6 2 rfl rfl)
theorem dX0_caught_145 : decode cX0_caught 145 = .ok (.iconst (-1), 1) := dk_2 (dk_at dksX0_caught_6 3 rfl rfl)
theorem dX0_caught_146 : decode cX0_caught 146 = .ok (.ixor, 1) := dk_130 (dk_at dksX0_caught_6 4 rfl rfl)
theorem dX0_caught_147 : decode cX0_caught 147 = .ok (.iand, 1) := dk_126 (dk_at dksX0_caught_6 5 rfl rfl)
theorem dX0_caught_148 : decode cX0_caught 148 = .ok (.istore_n 2, 1) := dk_61 (dk_at dksX0_caught_6 6 rfl rfl)
theorem dX0_caught_149 : decode cX0_caught 149 = .ok (.iinc 4 1, 3) := dk_132 4 1 (dk_at dksX0_caught_6 7 rfl rfl)
theorem dX0_caught_152 : decode cX0_caught 152 = .ok (.goto (-74), 3) := dk_167 255 182 (dk_at dksX0_caught_6 10 rfl rfl)
theorem dX0_caught_155 : decode cX0_caught 155 = .ok (.iinc 3 1, 3) := dk_132 3 1 (dk_at dksX0_caught_6 13 rfl rfl)
theorem dX0_caught_158 : decode cX0_caught 158 = .ok (.goto (-108), 3) := dk_167 255 148 (dk_at dksX0_caught_6 16 rfl rfl)
theorem dX0_caught_161 : decode cX0_caught 161 = .ok (.iload_n 2, 1) := dk_28 (dk_at dksX0_caught_6 19 rfl rfl)
theorem dX0_caught_162 : decode cX0_caught 162 = .ok (.ireturn, 1) := dk_172 (dk_at dksX0_caught_6 20 rfl rfl)
abbrev cX0_page : ByteArray := prog_1_method_53_code
def yX0_page : MethodName := ⟨RX0, "page", "(II)I"⟩
def dkwX0_page_5 : List UInt8 := [167, 255, 178, 28, 154, 0, 7, 29, 167, 0, 5, 21, 4, 172]
abbrev dktX0_page_5 : List UInt8 := dkwX0_page_5 ++ []
def dkwX0_page_4 : List UInt8 := [46, 21, 4, 161, 0, 6, 167, 0, 15, 21, 6, 62, 42, 180, 0, 92, 21, 7, 46, 54, 4, 132, 6, 1]
abbrev dktX0_page_4 : List UInt8 := dkwX0_page_4 ++ dktX0_page_5
def dkwX0_page_3 : List UInt8 := [120, 182, 1, 96, 54, 7, 21, 7, 2, 159, 0, 36, 29, 16, 254, 159, 0, 18, 42, 180, 0, 92, 21, 7]
abbrev dktX0_page_3 : List UInt8 := dkwX0_page_3 ++ dktX0_page_4
def dkwX0_page_2 : List UInt8 := [180, 0, 123, 162, 0, 72, 42, 42, 182, 1, 93, 21, 5, 21, 6, 184, 1, 78, 21, 5, 4, 96, 4, 27]
abbrev dktX0_page_2 : List UInt8 := dkwX0_page_2 ++ dktX0_page_3
def dkwX0_page_1 : List UInt8 := [16, 254, 54, 4, 42, 180, 0, 12, 182, 0, 125, 54, 5, 3, 54, 6, 21, 6, 42, 180, 0, 12]
abbrev dktX0_page_1 : List UInt8 := dkwX0_page_1 ++ dktX0_page_2
def dkwX0_page_0 : List UInt8 := [42, 27, 182, 0, 216, 153, 0, 13, 28, 133, 9, 10, 184, 0, 129, 154, 0, 5, 2, 172, 16, 254, 62]
abbrev dktX0_page_0 : List UInt8 := dkwX0_page_0 ++ dktX0_page_1
theorem dksX0_page_0 : cX0_page.data.toList.drop 0 = dktX0_page_0 := by decide +kernel
theorem dksX0_page_1 : cX0_page.data.toList.drop 23 = dktX0_page_1 := dk_seg dksX0_page_0 23 rfl rfl
theorem dksX0_page_2 : cX0_page.data.toList.drop 45 = dktX0_page_2 := dk_seg dksX0_page_1 22 rfl rfl
theorem dksX0_page_3 : cX0_page.data.toList.drop 69 = dktX0_page_3 := dk_seg dksX0_page_2 24 rfl rfl
theorem dksX0_page_4 : cX0_page.data.toList.drop 93 = dktX0_page_4 := dk_seg dksX0_page_3 24 rfl rfl
theorem dksX0_page_5 : cX0_page.data.toList.drop 117 = dktX0_page_5 := dk_seg dksX0_page_4 24 rfl rfl
theorem dX0_page_0 : decode cX0_page 0 = .ok (.aload_n 0, 1) := dk_42 (dk_at dksX0_page_0 0 rfl rfl)
theorem dX0_page_1 : decode cX0_page 1 = .ok (.iload_n 1, 1) := dk_27 (dk_at dksX0_page_0 1 rfl rfl)
theorem dX0_page_2 : decode cX0_page 2 = .ok (.invokevirtual 216, 3) := dk_182 0 216 (dk_at dksX0_page_0 2 rfl rfl)
theorem dX0_page_5 : decode cX0_page 5 = .ok (.ifCond .eq 13, 3) := dk_153 0 13 (dk_at dksX0_page_0 5 rfl rfl)
theorem dX0_page_8 : decode cX0_page 8 = .ok (.iload_n 2, 1) := dk_28 (dk_at dksX0_page_0 8 rfl rfl)
theorem dX0_page_9 : decode cX0_page 9 = .ok (.i2l, 1) := dk_133 (dk_at dksX0_page_0 9 rfl rfl)
theorem dX0_page_10 : decode cX0_page 10 = .ok (.lconst 0, 1) := dk_9 (dk_at dksX0_page_0 10 rfl rfl)
theorem dX0_page_11 : decode cX0_page 11 = .ok (.lconst 1, 1) := dk_10 (dk_at dksX0_page_0 11 rfl rfl)
theorem dX0_page_12 : decode cX0_page 12 = .ok (.invokestatic 129, 3) := dk_184 0 129 (dk_at dksX0_page_0 12 rfl rfl)
theorem dX0_page_15 : decode cX0_page 15 = .ok (.ifCond .ne 5, 3) := dk_154 0 5 (dk_at dksX0_page_0 15 rfl rfl)
theorem dX0_page_18 : decode cX0_page 18 = .ok (.iconst (-1), 1) := dk_2 (dk_at dksX0_page_0 18 rfl rfl)
theorem dX0_page_19 : decode cX0_page 19 = .ok (.ireturn, 1) := dk_172 (dk_at dksX0_page_0 19 rfl rfl)
theorem dX0_page_20 : decode cX0_page 20 = .ok (.bipush (-2), 2) := dk_16 254 (dk_at dksX0_page_0 20 rfl rfl)
theorem dX0_page_22 : decode cX0_page 22 = .ok (.istore_n 3, 1) := dk_62 (dk_at dksX0_page_0 22 rfl rfl)
theorem dX0_page_23 : decode cX0_page 23 = .ok (.bipush (-2), 2) := dk_16 254 (dk_at dksX0_page_1 0 rfl rfl)
theorem dX0_page_25 : decode cX0_page 25 = .ok (.istore 4, 2) := dk_54 4 (dk_at dksX0_page_1 2 rfl rfl)
theorem dX0_page_27 : decode cX0_page 27 = .ok (.aload_n 0, 1) := dk_42 (dk_at dksX0_page_1 4 rfl rfl)
theorem dX0_page_28 : decode cX0_page 28 = .ok (.getfield 12, 3) := dk_180 0 12 (dk_at dksX0_page_1 5 rfl rfl)
theorem dX0_page_31 : decode cX0_page 31 = .ok (.invokevirtual 125, 3) := dk_182 0 125 (dk_at dksX0_page_1 8 rfl rfl)
theorem dX0_page_34 : decode cX0_page 34 = .ok (.istore 5, 2) := dk_54 5 (dk_at dksX0_page_1 11 rfl rfl)
theorem dX0_page_36 : decode cX0_page 36 = .ok (.iconst 0, 1) := dk_3 (dk_at dksX0_page_1 13 rfl rfl)
theorem dX0_page_37 : decode cX0_page 37 = .ok (.istore 6, 2) := dk_54 6 (dk_at dksX0_page_1 14 rfl rfl)
theorem dX0_page_39 : decode cX0_page 39 = .ok (.iload 6, 2) := dk_21 6 (dk_at dksX0_page_1 16 rfl rfl)
theorem dX0_page_41 : decode cX0_page 41 = .ok (.aload_n 0, 1) := dk_42 (dk_at dksX0_page_1 18 rfl rfl)
theorem dX0_page_42 : decode cX0_page 42 = .ok (.getfield 12, 3) := dk_180 0 12 (dk_at dksX0_page_1 19 rfl rfl)
theorem dX0_page_45 : decode cX0_page 45 = .ok (.getfield 123, 3) := dk_180 0 123 (dk_at dksX0_page_2 0 rfl rfl)
theorem dX0_page_48 : decode cX0_page 48 = .ok (.if_icmp .ge 72, 3) := dk_162 0 72 (dk_at dksX0_page_2 3 rfl rfl)
theorem dX0_page_51 : decode cX0_page 51 = .ok (.aload_n 0, 1) := dk_42 (dk_at dksX0_page_2 6 rfl rfl)
theorem dX0_page_52 : decode cX0_page 52 = .ok (.aload_n 0, 1) := dk_42 (dk_at dksX0_page_2 7 rfl rfl)
theorem dX0_page_53 : decode cX0_page 53 = .ok (.invokevirtual 349, 3) := dk_182 1 93 (dk_at dksX0_page_2 8 rfl rfl)
theorem dX0_page_56 : decode cX0_page 56 = .ok (.iload 5, 2) := dk_21 5 (dk_at dksX0_page_2 11 rfl rfl)
theorem dX0_page_58 : decode cX0_page 58 = .ok (.iload 6, 2) := dk_21 6 (dk_at dksX0_page_2 13 rfl rfl)
theorem dX0_page_60 : decode cX0_page 60 = .ok (.invokestatic 334, 3) := dk_184 1 78 (dk_at dksX0_page_2 15 rfl rfl)
theorem dX0_page_63 : decode cX0_page 63 = .ok (.iload 5, 2) := dk_21 5 (dk_at dksX0_page_2 18 rfl rfl)
theorem dX0_page_65 : decode cX0_page 65 = .ok (.iconst 1, 1) := dk_4 (dk_at dksX0_page_2 20 rfl rfl)
theorem dX0_page_66 : decode cX0_page 66 = .ok (.iadd, 1) := dk_96 (dk_at dksX0_page_2 21 rfl rfl)
theorem dX0_page_67 : decode cX0_page 67 = .ok (.iconst 1, 1) := dk_4 (dk_at dksX0_page_2 22 rfl rfl)
theorem dX0_page_68 : decode cX0_page 68 = .ok (.iload_n 1, 1) := dk_27 (dk_at dksX0_page_2 23 rfl rfl)
theorem dX0_page_69 : decode cX0_page 69 = .ok (.ishl, 1) := dk_120 (dk_at dksX0_page_3 0 rfl rfl)
theorem dX0_page_70 : decode cX0_page 70 = .ok (.invokevirtual 352, 3) := dk_182 1 96 (dk_at dksX0_page_3 1 rfl rfl)
theorem dX0_page_73 : decode cX0_page 73 = .ok (.istore 7, 2) := dk_54 7 (dk_at dksX0_page_3 4 rfl rfl)
theorem dX0_page_75 : decode cX0_page 75 = .ok (.iload 7, 2) := dk_21 7 (dk_at dksX0_page_3 6 rfl rfl)
theorem dX0_page_77 : decode cX0_page 77 = .ok (.iconst (-1), 1) := dk_2 (dk_at dksX0_page_3 8 rfl rfl)
theorem dX0_page_78 : decode cX0_page 78 = .ok (.if_icmp .eq 36, 3) := dk_159 0 36 (dk_at dksX0_page_3 9 rfl rfl)
theorem dX0_page_81 : decode cX0_page 81 = .ok (.iload_n 3, 1) := dk_29 (dk_at dksX0_page_3 12 rfl rfl)
theorem dX0_page_82 : decode cX0_page 82 = .ok (.bipush (-2), 2) := dk_16 254 (dk_at dksX0_page_3 13 rfl rfl)
theorem dX0_page_84 : decode cX0_page 84 = .ok (.if_icmp .eq 18, 3) := dk_159 0 18 (dk_at dksX0_page_3 15 rfl rfl)
theorem dX0_page_87 : decode cX0_page 87 = .ok (.aload_n 0, 1) := dk_42 (dk_at dksX0_page_3 18 rfl rfl)
theorem dX0_page_88 : decode cX0_page 88 = .ok (.getfield 92, 3) := dk_180 0 92 (dk_at dksX0_page_3 19 rfl rfl)
theorem dX0_page_91 : decode cX0_page 91 = .ok (.iload 7, 2) := dk_21 7 (dk_at dksX0_page_3 22 rfl rfl)
theorem dX0_page_93 : decode cX0_page 93 = .ok (.iaload, 1) := dk_46 (dk_at dksX0_page_4 0 rfl rfl)
theorem dX0_page_94 : decode cX0_page 94 = .ok (.iload 4, 2) := dk_21 4 (dk_at dksX0_page_4 1 rfl rfl)
theorem dX0_page_96 : decode cX0_page 96 = .ok (.if_icmp .lt 6, 3) := dk_161 0 6 (dk_at dksX0_page_4 3 rfl rfl)
theorem dX0_page_99 : decode cX0_page 99 = .ok (.goto 15, 3) := dk_167 0 15 (dk_at dksX0_page_4 6 rfl rfl)
theorem dX0_page_102 : decode cX0_page 102 = .ok (.iload 6, 2) := dk_21 6 (dk_at dksX0_page_4 9 rfl rfl)
theorem dX0_page_104 : decode cX0_page 104 = .ok (.istore_n 3, 1) := dk_62 (dk_at dksX0_page_4 11 rfl rfl)
theorem dX0_page_105 : decode cX0_page 105 = .ok (.aload_n 0, 1) := dk_42 (dk_at dksX0_page_4 12 rfl rfl)
theorem dX0_page_106 : decode cX0_page 106 = .ok (.getfield 92, 3) := dk_180 0 92 (dk_at dksX0_page_4 13 rfl rfl)
theorem dX0_page_109 : decode cX0_page 109 = .ok (.iload 7, 2) := dk_21 7 (dk_at dksX0_page_4 16 rfl rfl)
theorem dX0_page_111 : decode cX0_page 111 = .ok (.iaload, 1) := dk_46 (dk_at dksX0_page_4 18 rfl rfl)
theorem dX0_page_112 : decode cX0_page 112 = .ok (.istore 4, 2) := dk_54 4 (dk_at dksX0_page_4 19 rfl rfl)
theorem dX0_page_114 : decode cX0_page 114 = .ok (.iinc 6 1, 3) := dk_132 6 1 (dk_at dksX0_page_4 21 rfl rfl)
theorem dX0_page_117 : decode cX0_page 117 = .ok (.goto (-78), 3) := dk_167 255 178 (dk_at dksX0_page_5 0 rfl rfl)
theorem dX0_page_120 : decode cX0_page 120 = .ok (.iload_n 2, 1) := dk_28 (dk_at dksX0_page_5 3 rfl rfl)
theorem dX0_page_121 : decode cX0_page 121 = .ok (.ifCond .ne 7, 3) := dk_154 0 7 (dk_at dksX0_page_5 4 rfl rfl)
theorem dX0_page_124 : decode cX0_page 124 = .ok (.iload_n 3, 1) := dk_29 (dk_at dksX0_page_5 7 rfl rfl)
theorem dX0_page_125 : decode cX0_page 125 = .ok (.goto 5, 3) := dk_167 0 5 (dk_at dksX0_page_5 8 rfl rfl)
theorem dX0_page_128 : decode cX0_page 128 = .ok (.iload 4, 2) := dk_21 4 (dk_at dksX0_page_5 11 rfl rfl)
theorem dX0_page_130 : decode cX0_page 130 = .ok (.ireturn, 1) := dk_172 (dk_at dksX0_page_5 13 rfl rfl)
abbrev cX0_price : ByteArray := prog_1_method_56_code
def yX0_price : MethodName := ⟨RX0, "price", "(I)I"⟩
def dkwX0_price_4 : List UInt8 := [180, 0, 110, 28, 4, 84, 42, 28, 27, 182, 1, 111, 42, 182, 1, 108, 61, 167, 255, 209, 16, 254, 172]
abbrev dktX0_price_4 : List UInt8 := dkwX0_price_4 ++ []
def dkwX0_price_3 : List UInt8 := [27, 184, 1, 75, 42, 180, 0, 19, 180, 0, 192, 27, 46, 160, 0, 10, 42, 180, 0, 107, 28, 46, 172, 42]
abbrev dktX0_price_3 : List UInt8 := dkwX0_price_3 ++ dktX0_price_4
def dkwX0_price_2 : List UInt8 := [167, 255, 222, 42, 180, 0, 107, 42, 182, 1, 93, 3, 79, 42, 182, 1, 108, 61, 28, 2, 159, 0, 48, 28]
abbrev dktX0_price_2 : List UInt8 := dkwX0_price_2 ++ dktX0_price_3
def dkwX0_price_1 : List UInt8 := [162, 0, 25, 42, 180, 0, 107, 28, 19, 1, 107, 79, 42, 180, 0, 110, 28, 3, 84, 132, 2, 1]
abbrev dktX0_price_1 : List UInt8 := dkwX0_price_1 ++ dktX0_price_2
def dkwX0_price_0 : List UInt8 := [42, 27, 182, 0, 216, 154, 0, 5, 2, 172, 3, 61, 28, 4, 6, 42, 180, 0, 12, 182, 0, 125, 104, 120]
abbrev dktX0_price_0 : List UInt8 := dkwX0_price_0 ++ dktX0_price_1
theorem dksX0_price_0 : cX0_price.data.toList.drop 0 = dktX0_price_0 := by decide +kernel
theorem dksX0_price_1 : cX0_price.data.toList.drop 24 = dktX0_price_1 := dk_seg dksX0_price_0 24 rfl rfl
theorem dksX0_price_2 : cX0_price.data.toList.drop 46 = dktX0_price_2 := dk_seg dksX0_price_1 22 rfl rfl
theorem dksX0_price_3 : cX0_price.data.toList.drop 70 = dktX0_price_3 := dk_seg dksX0_price_2 24 rfl rfl
theorem dksX0_price_4 : cX0_price.data.toList.drop 94 = dktX0_price_4 := dk_seg dksX0_price_3 24 rfl rfl
theorem dX0_price_0 : decode cX0_price 0 = .ok (.aload_n 0, 1) := dk_42 (dk_at dksX0_price_0 0 rfl rfl)
theorem dX0_price_1 : decode cX0_price 1 = .ok (.iload_n 1, 1) := dk_27 (dk_at dksX0_price_0 1 rfl rfl)
theorem dX0_price_2 : decode cX0_price 2 = .ok (.invokevirtual 216, 3) := dk_182 0 216 (dk_at dksX0_price_0 2 rfl rfl)
theorem dX0_price_5 : decode cX0_price 5 = .ok (.ifCond .ne 5, 3) := dk_154 0 5 (dk_at dksX0_price_0 5 rfl rfl)
theorem dX0_price_8 : decode cX0_price 8 = .ok (.iconst (-1), 1) := dk_2 (dk_at dksX0_price_0 8 rfl rfl)
theorem dX0_price_9 : decode cX0_price 9 = .ok (.ireturn, 1) := dk_172 (dk_at dksX0_price_0 9 rfl rfl)
theorem dX0_price_10 : decode cX0_price 10 = .ok (.iconst 0, 1) := dk_3 (dk_at dksX0_price_0 10 rfl rfl)
theorem dX0_price_11 : decode cX0_price 11 = .ok (.istore_n 2, 1) := dk_61 (dk_at dksX0_price_0 11 rfl rfl)
theorem dX0_price_12 : decode cX0_price 12 = .ok (.iload_n 2, 1) := dk_28 (dk_at dksX0_price_0 12 rfl rfl)
theorem dX0_price_13 : decode cX0_price 13 = .ok (.iconst 1, 1) := dk_4 (dk_at dksX0_price_0 13 rfl rfl)
theorem dX0_price_14 : decode cX0_price 14 = .ok (.iconst 3, 1) := dk_6 (dk_at dksX0_price_0 14 rfl rfl)
theorem dX0_price_15 : decode cX0_price 15 = .ok (.aload_n 0, 1) := dk_42 (dk_at dksX0_price_0 15 rfl rfl)
theorem dX0_price_16 : decode cX0_price 16 = .ok (.getfield 12, 3) := dk_180 0 12 (dk_at dksX0_price_0 16 rfl rfl)
theorem dX0_price_19 : decode cX0_price 19 = .ok (.invokevirtual 125, 3) := dk_182 0 125 (dk_at dksX0_price_0 19 rfl rfl)
theorem dX0_price_22 : decode cX0_price 22 = .ok (.imul, 1) := dk_104 (dk_at dksX0_price_0 22 rfl rfl)
theorem dX0_price_23 : decode cX0_price 23 = .ok (.ishl, 1) := dk_120 (dk_at dksX0_price_0 23 rfl rfl)
theorem dX0_price_24 : decode cX0_price 24 = .ok (.if_icmp .ge 25, 3) := dk_162 0 25 (dk_at dksX0_price_1 0 rfl rfl)
theorem dX0_price_27 : decode cX0_price 27 = .ok (.aload_n 0, 1) := dk_42 (dk_at dksX0_price_1 3 rfl rfl)
theorem dX0_price_28 : decode cX0_price 28 = .ok (.getfield 107, 3) := dk_180 0 107 (dk_at dksX0_price_1 4 rfl rfl)
theorem dX0_price_31 : decode cX0_price 31 = .ok (.iload_n 2, 1) := dk_28 (dk_at dksX0_price_1 7 rfl rfl)
theorem dX0_price_32 : decode cX0_price 32 = .ok (.ldc_w 363, 3) := dk_19 1 107 (dk_at dksX0_price_1 8 rfl rfl)
theorem dX0_price_35 : decode cX0_price 35 = .ok (.iastore, 1) := dk_79 (dk_at dksX0_price_1 11 rfl rfl)
theorem dX0_price_36 : decode cX0_price 36 = .ok (.aload_n 0, 1) := dk_42 (dk_at dksX0_price_1 12 rfl rfl)
theorem dX0_price_37 : decode cX0_price 37 = .ok (.getfield 110, 3) := dk_180 0 110 (dk_at dksX0_price_1 13 rfl rfl)
theorem dX0_price_40 : decode cX0_price 40 = .ok (.iload_n 2, 1) := dk_28 (dk_at dksX0_price_1 16 rfl rfl)
theorem dX0_price_41 : decode cX0_price 41 = .ok (.iconst 0, 1) := dk_3 (dk_at dksX0_price_1 17 rfl rfl)
theorem dX0_price_42 : decode cX0_price 42 = .ok (.bastore, 1) := dk_84 (dk_at dksX0_price_1 18 rfl rfl)
theorem dX0_price_43 : decode cX0_price 43 = .ok (.iinc 2 1, 3) := dk_132 2 1 (dk_at dksX0_price_1 19 rfl rfl)
theorem dX0_price_46 : decode cX0_price 46 = .ok (.goto (-34), 3) := dk_167 255 222 (dk_at dksX0_price_2 0 rfl rfl)
theorem dX0_price_49 : decode cX0_price 49 = .ok (.aload_n 0, 1) := dk_42 (dk_at dksX0_price_2 3 rfl rfl)
theorem dX0_price_50 : decode cX0_price 50 = .ok (.getfield 107, 3) := dk_180 0 107 (dk_at dksX0_price_2 4 rfl rfl)
theorem dX0_price_53 : decode cX0_price 53 = .ok (.aload_n 0, 1) := dk_42 (dk_at dksX0_price_2 7 rfl rfl)
theorem dX0_price_54 : decode cX0_price 54 = .ok (.invokevirtual 349, 3) := dk_182 1 93 (dk_at dksX0_price_2 8 rfl rfl)
theorem dX0_price_57 : decode cX0_price 57 = .ok (.iconst 0, 1) := dk_3 (dk_at dksX0_price_2 11 rfl rfl)
theorem dX0_price_58 : decode cX0_price 58 = .ok (.iastore, 1) := dk_79 (dk_at dksX0_price_2 12 rfl rfl)
theorem dX0_price_59 : decode cX0_price 59 = .ok (.aload_n 0, 1) := dk_42 (dk_at dksX0_price_2 13 rfl rfl)
theorem dX0_price_60 : decode cX0_price 60 = .ok (.invokevirtual 364, 3) := dk_182 1 108 (dk_at dksX0_price_2 14 rfl rfl)
theorem dX0_price_63 : decode cX0_price 63 = .ok (.istore_n 2, 1) := dk_61 (dk_at dksX0_price_2 17 rfl rfl)
theorem dX0_price_64 : decode cX0_price 64 = .ok (.iload_n 2, 1) := dk_28 (dk_at dksX0_price_2 18 rfl rfl)
theorem dX0_price_65 : decode cX0_price 65 = .ok (.iconst (-1), 1) := dk_2 (dk_at dksX0_price_2 19 rfl rfl)
theorem dX0_price_66 : decode cX0_price 66 = .ok (.if_icmp .eq 48, 3) := dk_159 0 48 (dk_at dksX0_price_2 20 rfl rfl)
theorem dX0_price_69 : decode cX0_price 69 = .ok (.iload_n 2, 1) := dk_28 (dk_at dksX0_price_2 23 rfl rfl)
theorem dX0_price_70 : decode cX0_price 70 = .ok (.iload_n 1, 1) := dk_27 (dk_at dksX0_price_3 0 rfl rfl)
theorem dX0_price_71 : decode cX0_price 71 = .ok (.invokestatic 331, 3) := dk_184 1 75 (dk_at dksX0_price_3 1 rfl rfl)
theorem dX0_price_74 : decode cX0_price 74 = .ok (.aload_n 0, 1) := dk_42 (dk_at dksX0_price_3 4 rfl rfl)
theorem dX0_price_75 : decode cX0_price 75 = .ok (.getfield 19, 3) := dk_180 0 19 (dk_at dksX0_price_3 5 rfl rfl)
theorem dX0_price_78 : decode cX0_price 78 = .ok (.getfield 192, 3) := dk_180 0 192 (dk_at dksX0_price_3 8 rfl rfl)
theorem dX0_price_81 : decode cX0_price 81 = .ok (.iload_n 1, 1) := dk_27 (dk_at dksX0_price_3 11 rfl rfl)
theorem dX0_price_82 : decode cX0_price 82 = .ok (.iaload, 1) := dk_46 (dk_at dksX0_price_3 12 rfl rfl)
theorem dX0_price_83 : decode cX0_price 83 = .ok (.if_icmp .ne 10, 3) := dk_160 0 10 (dk_at dksX0_price_3 13 rfl rfl)
theorem dX0_price_86 : decode cX0_price 86 = .ok (.aload_n 0, 1) := dk_42 (dk_at dksX0_price_3 16 rfl rfl)
theorem dX0_price_87 : decode cX0_price 87 = .ok (.getfield 107, 3) := dk_180 0 107 (dk_at dksX0_price_3 17 rfl rfl)
theorem dX0_price_90 : decode cX0_price 90 = .ok (.iload_n 2, 1) := dk_28 (dk_at dksX0_price_3 20 rfl rfl)
theorem dX0_price_91 : decode cX0_price 91 = .ok (.iaload, 1) := dk_46 (dk_at dksX0_price_3 21 rfl rfl)
theorem dX0_price_92 : decode cX0_price 92 = .ok (.ireturn, 1) := dk_172 (dk_at dksX0_price_3 22 rfl rfl)
theorem dX0_price_93 : decode cX0_price 93 = .ok (.aload_n 0, 1) := dk_42 (dk_at dksX0_price_3 23 rfl rfl)
theorem dX0_price_94 : decode cX0_price 94 = .ok (.getfield 110, 3) := dk_180 0 110 (dk_at dksX0_price_4 0 rfl rfl)
theorem dX0_price_97 : decode cX0_price 97 = .ok (.iload_n 2, 1) := dk_28 (dk_at dksX0_price_4 3 rfl rfl)
theorem dX0_price_98 : decode cX0_price 98 = .ok (.iconst 1, 1) := dk_4 (dk_at dksX0_price_4 4 rfl rfl)
theorem dX0_price_99 : decode cX0_price 99 = .ok (.bastore, 1) := dk_84 (dk_at dksX0_price_4 5 rfl rfl)
theorem dX0_price_100 : decode cX0_price 100 = .ok (.aload_n 0, 1) := dk_42 (dk_at dksX0_price_4 6 rfl rfl)
theorem dX0_price_101 : decode cX0_price 101 = .ok (.iload_n 2, 1) := dk_28 (dk_at dksX0_price_4 7 rfl rfl)
theorem dX0_price_102 : decode cX0_price 102 = .ok (.iload_n 1, 1) := dk_27 (dk_at dksX0_price_4 8 rfl rfl)
theorem dX0_price_103 : decode cX0_price 103 = .ok (.invokevirtual 367, 3) := dk_182 1 111 (dk_at dksX0_price_4 9 rfl rfl)
theorem dX0_price_106 : decode cX0_price 106 = .ok (.aload_n 0, 1) := dk_42 (dk_at dksX0_price_4 12 rfl rfl)
theorem dX0_price_107 : decode cX0_price 107 = .ok (.invokevirtual 364, 3) := dk_182 1 108 (dk_at dksX0_price_4 13 rfl rfl)
theorem dX0_price_110 : decode cX0_price 110 = .ok (.istore_n 2, 1) := dk_61 (dk_at dksX0_price_4 16 rfl rfl)
theorem dX0_price_111 : decode cX0_price 111 = .ok (.goto (-47), 3) := dk_167 255 209 (dk_at dksX0_price_4 17 rfl rfl)
theorem dX0_price_114 : decode cX0_price 114 = .ok (.bipush (-2), 2) := dk_16 254 (dk_at dksX0_price_4 20 rfl rfl)
theorem dX0_price_116 : decode cX0_price 116 = .ok (.ireturn, 1) := dk_172 (dk_at dksX0_price_4 22 rfl rfl)
abbrev cX0_cheapest : ByteArray := prog_1_method_54_code
def yX0_cheapest : MethodName := ⟨RX0, "cheapest", "()I"⟩
def dkwX0_cheapest_2 : List UInt8 := [180, 0, 107, 28, 46, 42, 180, 0, 107, 27, 46, 162, 0, 5, 28, 60, 132, 2, 1, 167, 255, 195, 27, 172]
abbrev dktX0_cheapest_2 : List UInt8 := dkwX0_cheapest_2 ++ []
def dkwX0_cheapest_1 : List UInt8 := [51, 154, 0, 37, 42, 180, 0, 107, 28, 46, 19, 1, 107, 162, 0, 25, 27, 2, 159, 0, 18, 42]
abbrev dktX0_cheapest_1 : List UInt8 := dkwX0_cheapest_1 ++ dktX0_cheapest_2
def dkwX0_cheapest_0 : List UInt8 := [2, 60, 3, 61, 28, 4, 6, 42, 180, 0, 12, 182, 0, 125, 104, 120, 162, 0, 52, 42, 180, 0, 110, 28]
abbrev dktX0_cheapest_0 : List UInt8 := dkwX0_cheapest_0 ++ dktX0_cheapest_1
theorem dksX0_cheapest_0 : cX0_cheapest.data.toList.drop 0 = dktX0_cheapest_0 := by decide +kernel
theorem dksX0_cheapest_1 : cX0_cheapest.data.toList.drop 24 = dktX0_cheapest_1 := dk_seg dksX0_cheapest_0 24 rfl rfl
theorem dksX0_cheapest_2 : cX0_cheapest.data.toList.drop 46 = dktX0_cheapest_2 := dk_seg dksX0_cheapest_1 22 rfl rfl
theorem dX0_cheapest_0 : decode cX0_cheapest 0 = .ok (.iconst (-1), 1) := dk_2 (dk_at dksX0_cheapest_0 0 rfl rfl)
theorem dX0_cheapest_1 : decode cX0_cheapest 1 = .ok (.istore_n 1, 1) := dk_60 (dk_at dksX0_cheapest_0 1 rfl rfl)
theorem dX0_cheapest_2 : decode cX0_cheapest 2 = .ok (.iconst 0, 1) := dk_3 (dk_at dksX0_cheapest_0 2 rfl rfl)
theorem dX0_cheapest_3 : decode cX0_cheapest 3 = .ok (.istore_n 2, 1) := dk_61 (dk_at dksX0_cheapest_0 3 rfl rfl)
theorem dX0_cheapest_4 : decode cX0_cheapest 4 = .ok (.iload_n 2, 1) := dk_28 (dk_at dksX0_cheapest_0 4 rfl rfl)
theorem dX0_cheapest_5 : decode cX0_cheapest 5 = .ok (.iconst 1, 1) := dk_4 (dk_at dksX0_cheapest_0 5 rfl rfl)
theorem dX0_cheapest_6 : decode cX0_cheapest 6 = .ok (.iconst 3, 1) := dk_6 (dk_at dksX0_cheapest_0 6 rfl rfl)
theorem dX0_cheapest_7 : decode cX0_cheapest 7 = .ok (.aload_n 0, 1) := dk_42 (dk_at dksX0_cheapest_0 7 rfl rfl)
theorem dX0_cheapest_8 : decode cX0_cheapest 8 = .ok (.getfield 12, 3) := dk_180 0 12 (dk_at dksX0_cheapest_0 8 rfl rfl)
theorem dX0_cheapest_11 : decode cX0_cheapest 11 = .ok (.invokevirtual 125, 3) := dk_182 0 125 (dk_at dksX0_cheapest_0 11 rfl rfl)
theorem dX0_cheapest_14 : decode cX0_cheapest 14 = .ok (.imul, 1) := dk_104 (dk_at dksX0_cheapest_0 14 rfl rfl)
theorem dX0_cheapest_15 : decode cX0_cheapest 15 = .ok (.ishl, 1) := dk_120 (dk_at dksX0_cheapest_0 15 rfl rfl)
theorem dX0_cheapest_16 : decode cX0_cheapest 16 = .ok (.if_icmp .ge 52, 3) := dk_162 0 52 (dk_at dksX0_cheapest_0 16 rfl rfl)
theorem dX0_cheapest_19 : decode cX0_cheapest 19 = .ok (.aload_n 0, 1) := dk_42 (dk_at dksX0_cheapest_0 19 rfl rfl)
theorem dX0_cheapest_20 : decode cX0_cheapest 20 = .ok (.getfield 110, 3) := dk_180 0 110 (dk_at dksX0_cheapest_0 20 rfl rfl)
theorem dX0_cheapest_23 : decode cX0_cheapest 23 = .ok (.iload_n 2, 1) := dk_28 (dk_at dksX0_cheapest_0 23 rfl rfl)
theorem dX0_cheapest_24 : decode cX0_cheapest 24 = .ok (.baload, 1) := dk_51 (dk_at dksX0_cheapest_1 0 rfl rfl)
theorem dX0_cheapest_25 : decode cX0_cheapest 25 = .ok (.ifCond .ne 37, 3) := dk_154 0 37 (dk_at dksX0_cheapest_1 1 rfl rfl)
theorem dX0_cheapest_28 : decode cX0_cheapest 28 = .ok (.aload_n 0, 1) := dk_42 (dk_at dksX0_cheapest_1 4 rfl rfl)
theorem dX0_cheapest_29 : decode cX0_cheapest 29 = .ok (.getfield 107, 3) := dk_180 0 107 (dk_at dksX0_cheapest_1 5 rfl rfl)
theorem dX0_cheapest_32 : decode cX0_cheapest 32 = .ok (.iload_n 2, 1) := dk_28 (dk_at dksX0_cheapest_1 8 rfl rfl)
theorem dX0_cheapest_33 : decode cX0_cheapest 33 = .ok (.iaload, 1) := dk_46 (dk_at dksX0_cheapest_1 9 rfl rfl)
theorem dX0_cheapest_34 : decode cX0_cheapest 34 = .ok (.ldc_w 363, 3) := dk_19 1 107 (dk_at dksX0_cheapest_1 10 rfl rfl)
theorem dX0_cheapest_37 : decode cX0_cheapest 37 = .ok (.if_icmp .ge 25, 3) := dk_162 0 25 (dk_at dksX0_cheapest_1 13 rfl rfl)
theorem dX0_cheapest_40 : decode cX0_cheapest 40 = .ok (.iload_n 1, 1) := dk_27 (dk_at dksX0_cheapest_1 16 rfl rfl)
theorem dX0_cheapest_41 : decode cX0_cheapest 41 = .ok (.iconst (-1), 1) := dk_2 (dk_at dksX0_cheapest_1 17 rfl rfl)
theorem dX0_cheapest_42 : decode cX0_cheapest 42 = .ok (.if_icmp .eq 18, 3) := dk_159 0 18 (dk_at dksX0_cheapest_1 18 rfl rfl)
theorem dX0_cheapest_45 : decode cX0_cheapest 45 = .ok (.aload_n 0, 1) := dk_42 (dk_at dksX0_cheapest_1 21 rfl rfl)
theorem dX0_cheapest_46 : decode cX0_cheapest 46 = .ok (.getfield 107, 3) := dk_180 0 107 (dk_at dksX0_cheapest_2 0 rfl rfl)
theorem dX0_cheapest_49 : decode cX0_cheapest 49 = .ok (.iload_n 2, 1) := dk_28 (dk_at dksX0_cheapest_2 3 rfl rfl)
theorem dX0_cheapest_50 : decode cX0_cheapest 50 = .ok (.iaload, 1) := dk_46 (dk_at dksX0_cheapest_2 4 rfl rfl)
theorem dX0_cheapest_51 : decode cX0_cheapest 51 = .ok (.aload_n 0, 1) := dk_42 (dk_at dksX0_cheapest_2 5 rfl rfl)
theorem dX0_cheapest_52 : decode cX0_cheapest 52 = .ok (.getfield 107, 3) := dk_180 0 107 (dk_at dksX0_cheapest_2 6 rfl rfl)
theorem dX0_cheapest_55 : decode cX0_cheapest 55 = .ok (.iload_n 1, 1) := dk_27 (dk_at dksX0_cheapest_2 9 rfl rfl)
theorem dX0_cheapest_56 : decode cX0_cheapest 56 = .ok (.iaload, 1) := dk_46 (dk_at dksX0_cheapest_2 10 rfl rfl)
theorem dX0_cheapest_57 : decode cX0_cheapest 57 = .ok (.if_icmp .ge 5, 3) := dk_162 0 5 (dk_at dksX0_cheapest_2 11 rfl rfl)
theorem dX0_cheapest_60 : decode cX0_cheapest 60 = .ok (.iload_n 2, 1) := dk_28 (dk_at dksX0_cheapest_2 14 rfl rfl)
theorem dX0_cheapest_61 : decode cX0_cheapest 61 = .ok (.istore_n 1, 1) := dk_60 (dk_at dksX0_cheapest_2 15 rfl rfl)
theorem dX0_cheapest_62 : decode cX0_cheapest 62 = .ok (.iinc 2 1, 3) := dk_132 2 1 (dk_at dksX0_cheapest_2 16 rfl rfl)
theorem dX0_cheapest_65 : decode cX0_cheapest 65 = .ok (.goto (-61), 3) := dk_167 255 195 (dk_at dksX0_cheapest_2 19 rfl rfl)
theorem dX0_cheapest_68 : decode cX0_cheapest 68 = .ok (.iload_n 1, 1) := dk_27 (dk_at dksX0_cheapest_2 22 rfl rfl)
theorem dX0_cheapest_69 : decode cX0_cheapest 69 = .ok (.ireturn, 1) := dk_172 (dk_at dksX0_cheapest_2 23 rfl rfl)
abbrev cX0_pays : ByteArray := prog_1_method_55_code
def yX0_pays : MethodName := ⟨RX0, "pays", "(II)V"⟩
def dkwX0_pays_10 : List UInt8 := [177]
abbrev dktX0_pays_10 : List UInt8 := dkwX0_pays_10 ++ []
def dkwX0_pays_9 : List UInt8 := [21, 4, 184, 0, 186, 79, 132, 7, 1, 167, 255, 177, 132, 5, 1, 167, 255, 79, 132, 3, 1, 167, 255, 24]
abbrev dktX0_pays_9 : List UInt8 := dkwX0_pays_9 ++ dktX0_pays_10
def dkwX0_pays_8 : List UInt8 := [21, 5, 182, 0, 179, 184, 1, 78, 54, 8, 42, 180, 0, 107, 21, 8, 42, 180, 0, 107, 21, 8, 46]
abbrev dktX0_pays_8 : List UInt8 := dkwX0_pays_8 ++ dktX0_pays_9
def dkwX0_pays_7 : List UInt8 := [42, 180, 0, 12, 21, 5, 182, 0, 183, 159, 0, 6, 167, 0, 40, 21, 6, 21, 7, 42, 180, 0, 12]
abbrev dktX0_pays_7 : List UInt8 := dkwX0_pays_7 ++ dktX0_pays_8
def dkwX0_pays_6 : List UInt8 := [21, 7, 42, 180, 0, 12, 182, 0, 125, 162, 0, 73, 21, 7, 29, 159, 0, 61, 27, 21, 7, 184, 1, 75]
abbrev dktX0_pays_6 : List UInt8 := dkwX0_pays_6 ++ dktX0_pays_7
def dkwX0_pays_5 : List UInt8 := [54, 6, 42, 180, 0, 107, 21, 6, 42, 180, 0, 107, 21, 6, 46, 21, 4, 184, 0, 186, 79, 3, 54, 7]
abbrev dktX0_pays_5 : List UInt8 := dkwX0_pays_5 ++ dktX0_pays_6
def dkwX0_pays_4 : List UInt8 := [184, 1, 75, 159, 0, 6, 167, 0, 123, 27, 29, 42, 180, 0, 12, 21, 5, 182, 0, 183, 184, 1, 78]
abbrev dktX0_pays_4 : List UInt8 := dkwX0_pays_4 ++ dktX0_pays_5
def dkwX0_pays_3 : List UInt8 := [42, 180, 0, 19, 180, 0, 195, 182, 0, 175, 153, 0, 143, 42, 180, 0, 12, 21, 5, 182, 0, 179, 27, 29]
abbrev dktX0_pays_3 : List UInt8 := dkwX0_pays_3 ++ dktX0_pays_4
def dkwX0_pays_2 : List UInt8 := [3, 54, 5, 21, 5, 42, 180, 0, 12, 180, 0, 133, 182, 0, 136, 162, 0, 168, 42, 180, 0, 12, 21, 5]
abbrev dktX0_pays_2 : List UInt8 := dkwX0_pays_2 ++ dktX0_pays_3
def dkwX0_pays_1 : List UInt8 := [3, 167, 0, 20, 42, 180, 0, 12, 180, 0, 220, 29, 182, 0, 223, 192, 0, 227, 180, 0, 229, 96, 54, 4]
abbrev dktX0_pays_1 : List UInt8 := dkwX0_pays_1 ++ dktX0_pays_2
def dkwX0_pays_0 : List UInt8 := [3, 62, 29, 42, 180, 0, 12, 182, 0, 125, 162, 0, 227, 42, 180, 0, 107, 27, 46, 29, 28, 160, 0, 7]
abbrev dktX0_pays_0 : List UInt8 := dkwX0_pays_0 ++ dktX0_pays_1
theorem dksX0_pays_0 : cX0_pays.data.toList.drop 0 = dktX0_pays_0 := by decide +kernel
theorem dksX0_pays_1 : cX0_pays.data.toList.drop 24 = dktX0_pays_1 := dk_seg dksX0_pays_0 24 rfl rfl
theorem dksX0_pays_2 : cX0_pays.data.toList.drop 48 = dktX0_pays_2 := dk_seg dksX0_pays_1 24 rfl rfl
theorem dksX0_pays_3 : cX0_pays.data.toList.drop 72 = dktX0_pays_3 := dk_seg dksX0_pays_2 24 rfl rfl
theorem dksX0_pays_4 : cX0_pays.data.toList.drop 96 = dktX0_pays_4 := dk_seg dksX0_pays_3 24 rfl rfl
theorem dksX0_pays_5 : cX0_pays.data.toList.drop 119 = dktX0_pays_5 := dk_seg dksX0_pays_4 23 rfl rfl
theorem dksX0_pays_6 : cX0_pays.data.toList.drop 143 = dktX0_pays_6 := dk_seg dksX0_pays_5 24 rfl rfl
theorem dksX0_pays_7 : cX0_pays.data.toList.drop 167 = dktX0_pays_7 := dk_seg dksX0_pays_6 24 rfl rfl
theorem dksX0_pays_8 : cX0_pays.data.toList.drop 190 = dktX0_pays_8 := dk_seg dksX0_pays_7 23 rfl rfl
theorem dksX0_pays_9 : cX0_pays.data.toList.drop 213 = dktX0_pays_9 := dk_seg dksX0_pays_8 23 rfl rfl
theorem dksX0_pays_10 : cX0_pays.data.toList.drop 237 = dktX0_pays_10 := dk_seg dksX0_pays_9 24 rfl rfl
theorem dX0_pays_0 : decode cX0_pays 0 = .ok (.iconst 0, 1) := dk_3 (dk_at dksX0_pays_0 0 rfl rfl)
theorem dX0_pays_1 : decode cX0_pays 1 = .ok (.istore_n 3, 1) := dk_62 (dk_at dksX0_pays_0 1 rfl rfl)
theorem dX0_pays_2 : decode cX0_pays 2 = .ok (.iload_n 3, 1) := dk_29 (dk_at dksX0_pays_0 2 rfl rfl)
theorem dX0_pays_3 : decode cX0_pays 3 = .ok (.aload_n 0, 1) := dk_42 (dk_at dksX0_pays_0 3 rfl rfl)
theorem dX0_pays_4 : decode cX0_pays 4 = .ok (.getfield 12, 3) := dk_180 0 12 (dk_at dksX0_pays_0 4 rfl rfl)
theorem dX0_pays_7 : decode cX0_pays 7 = .ok (.invokevirtual 125, 3) := dk_182 0 125 (dk_at dksX0_pays_0 7 rfl rfl)
theorem dX0_pays_10 : decode cX0_pays 10 = .ok (.if_icmp .ge 227, 3) := dk_162 0 227 (dk_at dksX0_pays_0 10 rfl rfl)
theorem dX0_pays_13 : decode cX0_pays 13 = .ok (.aload_n 0, 1) := dk_42 (dk_at dksX0_pays_0 13 rfl rfl)
theorem dX0_pays_14 : decode cX0_pays 14 = .ok (.getfield 107, 3) := dk_180 0 107 (dk_at dksX0_pays_0 14 rfl rfl)
theorem dX0_pays_17 : decode cX0_pays 17 = .ok (.iload_n 1, 1) := dk_27 (dk_at dksX0_pays_0 17 rfl rfl)
theorem dX0_pays_18 : decode cX0_pays 18 = .ok (.iaload, 1) := dk_46 (dk_at dksX0_pays_0 18 rfl rfl)
theorem dX0_pays_19 : decode cX0_pays 19 = .ok (.iload_n 3, 1) := dk_29 (dk_at dksX0_pays_0 19 rfl rfl)
theorem dX0_pays_20 : decode cX0_pays 20 = .ok (.iload_n 2, 1) := dk_28 (dk_at dksX0_pays_0 20 rfl rfl)
theorem dX0_pays_21 : decode cX0_pays 21 = .ok (.if_icmp .ne 7, 3) := dk_160 0 7 (dk_at dksX0_pays_0 21 rfl rfl)
theorem dX0_pays_24 : decode cX0_pays 24 = .ok (.iconst 0, 1) := dk_3 (dk_at dksX0_pays_1 0 rfl rfl)
theorem dX0_pays_25 : decode cX0_pays 25 = .ok (.goto 20, 3) := dk_167 0 20 (dk_at dksX0_pays_1 1 rfl rfl)
theorem dX0_pays_28 : decode cX0_pays 28 = .ok (.aload_n 0, 1) := dk_42 (dk_at dksX0_pays_1 4 rfl rfl)
theorem dX0_pays_29 : decode cX0_pays 29 = .ok (.getfield 12, 3) := dk_180 0 12 (dk_at dksX0_pays_1 5 rfl rfl)
theorem dX0_pays_32 : decode cX0_pays 32 = .ok (.getfield 220, 3) := dk_180 0 220 (dk_at dksX0_pays_1 8 rfl rfl)
theorem dX0_pays_35 : decode cX0_pays 35 = .ok (.iload_n 3, 1) := dk_29 (dk_at dksX0_pays_1 11 rfl rfl)
theorem dX0_pays_36 : decode cX0_pays 36 = .ok (.invokevirtual 223, 3) := dk_182 0 223 (dk_at dksX0_pays_1 12 rfl rfl)
theorem dX0_pays_39 : decode cX0_pays 39 = .ok (.checkcast 227, 3) := dk_192 0 227 (dk_at dksX0_pays_1 15 rfl rfl)
theorem dX0_pays_42 : decode cX0_pays 42 = .ok (.getfield 229, 3) := dk_180 0 229 (dk_at dksX0_pays_1 18 rfl rfl)
theorem dX0_pays_45 : decode cX0_pays 45 = .ok (.iadd, 1) := dk_96 (dk_at dksX0_pays_1 21 rfl rfl)
theorem dX0_pays_46 : decode cX0_pays 46 = .ok (.istore 4, 2) := dk_54 4 (dk_at dksX0_pays_1 22 rfl rfl)
theorem dX0_pays_48 : decode cX0_pays 48 = .ok (.iconst 0, 1) := dk_3 (dk_at dksX0_pays_2 0 rfl rfl)
theorem dX0_pays_49 : decode cX0_pays 49 = .ok (.istore 5, 2) := dk_54 5 (dk_at dksX0_pays_2 1 rfl rfl)
theorem dX0_pays_51 : decode cX0_pays 51 = .ok (.iload 5, 2) := dk_21 5 (dk_at dksX0_pays_2 3 rfl rfl)
theorem dX0_pays_53 : decode cX0_pays 53 = .ok (.aload_n 0, 1) := dk_42 (dk_at dksX0_pays_2 5 rfl rfl)
theorem dX0_pays_54 : decode cX0_pays 54 = .ok (.getfield 12, 3) := dk_180 0 12 (dk_at dksX0_pays_2 6 rfl rfl)
theorem dX0_pays_57 : decode cX0_pays 57 = .ok (.getfield 133, 3) := dk_180 0 133 (dk_at dksX0_pays_2 9 rfl rfl)
theorem dX0_pays_60 : decode cX0_pays 60 = .ok (.invokevirtual 136, 3) := dk_182 0 136 (dk_at dksX0_pays_2 12 rfl rfl)
theorem dX0_pays_63 : decode cX0_pays 63 = .ok (.if_icmp .ge 168, 3) := dk_162 0 168 (dk_at dksX0_pays_2 15 rfl rfl)
theorem dX0_pays_66 : decode cX0_pays 66 = .ok (.aload_n 0, 1) := dk_42 (dk_at dksX0_pays_2 18 rfl rfl)
theorem dX0_pays_67 : decode cX0_pays 67 = .ok (.getfield 12, 3) := dk_180 0 12 (dk_at dksX0_pays_2 19 rfl rfl)
theorem dX0_pays_70 : decode cX0_pays 70 = .ok (.iload 5, 2) := dk_21 5 (dk_at dksX0_pays_2 22 rfl rfl)
theorem dX0_pays_72 : decode cX0_pays 72 = .ok (.aload_n 0, 1) := dk_42 (dk_at dksX0_pays_3 0 rfl rfl)
theorem dX0_pays_73 : decode cX0_pays 73 = .ok (.getfield 19, 3) := dk_180 0 19 (dk_at dksX0_pays_3 1 rfl rfl)
theorem dX0_pays_76 : decode cX0_pays 76 = .ok (.getfield 195, 3) := dk_180 0 195 (dk_at dksX0_pays_3 4 rfl rfl)
theorem dX0_pays_79 : decode cX0_pays 79 = .ok (.invokevirtual 175, 3) := dk_182 0 175 (dk_at dksX0_pays_3 7 rfl rfl)
theorem dX0_pays_82 : decode cX0_pays 82 = .ok (.ifCond .eq 143, 3) := dk_153 0 143 (dk_at dksX0_pays_3 10 rfl rfl)
theorem dX0_pays_85 : decode cX0_pays 85 = .ok (.aload_n 0, 1) := dk_42 (dk_at dksX0_pays_3 13 rfl rfl)
theorem dX0_pays_86 : decode cX0_pays 86 = .ok (.getfield 12, 3) := dk_180 0 12 (dk_at dksX0_pays_3 14 rfl rfl)
theorem dX0_pays_89 : decode cX0_pays 89 = .ok (.iload 5, 2) := dk_21 5 (dk_at dksX0_pays_3 17 rfl rfl)
theorem dX0_pays_91 : decode cX0_pays 91 = .ok (.invokevirtual 179, 3) := dk_182 0 179 (dk_at dksX0_pays_3 19 rfl rfl)
theorem dX0_pays_94 : decode cX0_pays 94 = .ok (.iload_n 1, 1) := dk_27 (dk_at dksX0_pays_3 22 rfl rfl)
theorem dX0_pays_95 : decode cX0_pays 95 = .ok (.iload_n 3, 1) := dk_29 (dk_at dksX0_pays_3 23 rfl rfl)
theorem dX0_pays_96 : decode cX0_pays 96 = .ok (.invokestatic 331, 3) := dk_184 1 75 (dk_at dksX0_pays_4 0 rfl rfl)
theorem dX0_pays_99 : decode cX0_pays 99 = .ok (.if_icmp .eq 6, 3) := dk_159 0 6 (dk_at dksX0_pays_4 3 rfl rfl)
theorem dX0_pays_102 : decode cX0_pays 102 = .ok (.goto 123, 3) := dk_167 0 123 (dk_at dksX0_pays_4 6 rfl rfl)
theorem dX0_pays_105 : decode cX0_pays 105 = .ok (.iload_n 1, 1) := dk_27 (dk_at dksX0_pays_4 9 rfl rfl)
theorem dX0_pays_106 : decode cX0_pays 106 = .ok (.iload_n 3, 1) := dk_29 (dk_at dksX0_pays_4 10 rfl rfl)
theorem dX0_pays_107 : decode cX0_pays 107 = .ok (.aload_n 0, 1) := dk_42 (dk_at dksX0_pays_4 11 rfl rfl)
theorem dX0_pays_108 : decode cX0_pays 108 = .ok (.getfield 12, 3) := dk_180 0 12 (dk_at dksX0_pays_4 12 rfl rfl)
theorem dX0_pays_111 : decode cX0_pays 111 = .ok (.iload 5, 2) := dk_21 5 (dk_at dksX0_pays_4 15 rfl rfl)
theorem dX0_pays_113 : decode cX0_pays 113 = .ok (.invokevirtual 183, 3) := dk_182 0 183 (dk_at dksX0_pays_4 17 rfl rfl)
theorem dX0_pays_116 : decode cX0_pays 116 = .ok (.invokestatic 334, 3) := dk_184 1 78 (dk_at dksX0_pays_4 20 rfl rfl)
theorem dX0_pays_119 : decode cX0_pays 119 = .ok (.istore 6, 2) := dk_54 6 (dk_at dksX0_pays_5 0 rfl rfl)
theorem dX0_pays_121 : decode cX0_pays 121 = .ok (.aload_n 0, 1) := dk_42 (dk_at dksX0_pays_5 2 rfl rfl)
theorem dX0_pays_122 : decode cX0_pays 122 = .ok (.getfield 107, 3) := dk_180 0 107 (dk_at dksX0_pays_5 3 rfl rfl)
theorem dX0_pays_125 : decode cX0_pays 125 = .ok (.iload 6, 2) := dk_21 6 (dk_at dksX0_pays_5 6 rfl rfl)
theorem dX0_pays_127 : decode cX0_pays 127 = .ok (.aload_n 0, 1) := dk_42 (dk_at dksX0_pays_5 8 rfl rfl)
theorem dX0_pays_128 : decode cX0_pays 128 = .ok (.getfield 107, 3) := dk_180 0 107 (dk_at dksX0_pays_5 9 rfl rfl)
theorem dX0_pays_131 : decode cX0_pays 131 = .ok (.iload 6, 2) := dk_21 6 (dk_at dksX0_pays_5 12 rfl rfl)
theorem dX0_pays_133 : decode cX0_pays 133 = .ok (.iaload, 1) := dk_46 (dk_at dksX0_pays_5 14 rfl rfl)
theorem dX0_pays_134 : decode cX0_pays 134 = .ok (.iload 4, 2) := dk_21 4 (dk_at dksX0_pays_5 15 rfl rfl)
theorem dX0_pays_136 : decode cX0_pays 136 = .ok (.invokestatic 186, 3) := dk_184 0 186 (dk_at dksX0_pays_5 17 rfl rfl)
theorem dX0_pays_139 : decode cX0_pays 139 = .ok (.iastore, 1) := dk_79 (dk_at dksX0_pays_5 20 rfl rfl)
theorem dX0_pays_140 : decode cX0_pays 140 = .ok (.iconst 0, 1) := dk_3 (dk_at dksX0_pays_5 21 rfl rfl)
theorem dX0_pays_141 : decode cX0_pays 141 = .ok (.istore 7, 2) := dk_54 7 (dk_at dksX0_pays_5 22 rfl rfl)
theorem dX0_pays_143 : decode cX0_pays 143 = .ok (.iload 7, 2) := dk_21 7 (dk_at dksX0_pays_6 0 rfl rfl)
theorem dX0_pays_145 : decode cX0_pays 145 = .ok (.aload_n 0, 1) := dk_42 (dk_at dksX0_pays_6 2 rfl rfl)
theorem dX0_pays_146 : decode cX0_pays 146 = .ok (.getfield 12, 3) := dk_180 0 12 (dk_at dksX0_pays_6 3 rfl rfl)
theorem dX0_pays_149 : decode cX0_pays 149 = .ok (.invokevirtual 125, 3) := dk_182 0 125 (dk_at dksX0_pays_6 6 rfl rfl)
theorem dX0_pays_152 : decode cX0_pays 152 = .ok (.if_icmp .ge 73, 3) := dk_162 0 73 (dk_at dksX0_pays_6 9 rfl rfl)
theorem dX0_pays_155 : decode cX0_pays 155 = .ok (.iload 7, 2) := dk_21 7 (dk_at dksX0_pays_6 12 rfl rfl)
theorem dX0_pays_157 : decode cX0_pays 157 = .ok (.iload_n 3, 1) := dk_29 (dk_at dksX0_pays_6 14 rfl rfl)
theorem dX0_pays_158 : decode cX0_pays 158 = .ok (.if_icmp .eq 61, 3) := dk_159 0 61 (dk_at dksX0_pays_6 15 rfl rfl)
theorem dX0_pays_161 : decode cX0_pays 161 = .ok (.iload_n 1, 1) := dk_27 (dk_at dksX0_pays_6 18 rfl rfl)
theorem dX0_pays_162 : decode cX0_pays 162 = .ok (.iload 7, 2) := dk_21 7 (dk_at dksX0_pays_6 19 rfl rfl)
theorem dX0_pays_164 : decode cX0_pays 164 = .ok (.invokestatic 331, 3) := dk_184 1 75 (dk_at dksX0_pays_6 21 rfl rfl)
theorem dX0_pays_167 : decode cX0_pays 167 = .ok (.aload_n 0, 1) := dk_42 (dk_at dksX0_pays_7 0 rfl rfl)
theorem dX0_pays_168 : decode cX0_pays 168 = .ok (.getfield 12, 3) := dk_180 0 12 (dk_at dksX0_pays_7 1 rfl rfl)
theorem dX0_pays_171 : decode cX0_pays 171 = .ok (.iload 5, 2) := dk_21 5 (dk_at dksX0_pays_7 4 rfl rfl)
theorem dX0_pays_173 : decode cX0_pays 173 = .ok (.invokevirtual 183, 3) := dk_182 0 183 (dk_at dksX0_pays_7 6 rfl rfl)
theorem dX0_pays_176 : decode cX0_pays 176 = .ok (.if_icmp .eq 6, 3) := dk_159 0 6 (dk_at dksX0_pays_7 9 rfl rfl)
theorem dX0_pays_179 : decode cX0_pays 179 = .ok (.goto 40, 3) := dk_167 0 40 (dk_at dksX0_pays_7 12 rfl rfl)
theorem dX0_pays_182 : decode cX0_pays 182 = .ok (.iload 6, 2) := dk_21 6 (dk_at dksX0_pays_7 15 rfl rfl)
theorem dX0_pays_184 : decode cX0_pays 184 = .ok (.iload 7, 2) := dk_21 7 (dk_at dksX0_pays_7 17 rfl rfl)
theorem dX0_pays_186 : decode cX0_pays 186 = .ok (.aload_n 0, 1) := dk_42 (dk_at dksX0_pays_7 19 rfl rfl)
theorem dX0_pays_187 : decode cX0_pays 187 = .ok (.getfield 12, 3) := dk_180 0 12 (dk_at dksX0_pays_7 20 rfl rfl)
theorem dX0_pays_190 : decode cX0_pays 190 = .ok (.iload 5, 2) := dk_21 5 (dk_at dksX0_pays_8 0 rfl rfl)
theorem dX0_pays_192 : decode cX0_pays 192 = .ok (.invokevirtual 179, 3) := dk_182 0 179 (dk_at dksX0_pays_8 2 rfl rfl)
theorem dX0_pays_195 : decode cX0_pays 195 = .ok (.invokestatic 334, 3) := dk_184 1 78 (dk_at dksX0_pays_8 5 rfl rfl)
theorem dX0_pays_198 : decode cX0_pays 198 = .ok (.istore 8, 2) := dk_54 8 (dk_at dksX0_pays_8 8 rfl rfl)
theorem dX0_pays_200 : decode cX0_pays 200 = .ok (.aload_n 0, 1) := dk_42 (dk_at dksX0_pays_8 10 rfl rfl)
theorem dX0_pays_201 : decode cX0_pays 201 = .ok (.getfield 107, 3) := dk_180 0 107 (dk_at dksX0_pays_8 11 rfl rfl)
theorem dX0_pays_204 : decode cX0_pays 204 = .ok (.iload 8, 2) := dk_21 8 (dk_at dksX0_pays_8 14 rfl rfl)
theorem dX0_pays_206 : decode cX0_pays 206 = .ok (.aload_n 0, 1) := dk_42 (dk_at dksX0_pays_8 16 rfl rfl)
theorem dX0_pays_207 : decode cX0_pays 207 = .ok (.getfield 107, 3) := dk_180 0 107 (dk_at dksX0_pays_8 17 rfl rfl)
theorem dX0_pays_210 : decode cX0_pays 210 = .ok (.iload 8, 2) := dk_21 8 (dk_at dksX0_pays_8 20 rfl rfl)
theorem dX0_pays_212 : decode cX0_pays 212 = .ok (.iaload, 1) := dk_46 (dk_at dksX0_pays_8 22 rfl rfl)
theorem dX0_pays_213 : decode cX0_pays 213 = .ok (.iload 4, 2) := dk_21 4 (dk_at dksX0_pays_9 0 rfl rfl)
theorem dX0_pays_215 : decode cX0_pays 215 = .ok (.invokestatic 186, 3) := dk_184 0 186 (dk_at dksX0_pays_9 2 rfl rfl)
theorem dX0_pays_218 : decode cX0_pays 218 = .ok (.iastore, 1) := dk_79 (dk_at dksX0_pays_9 5 rfl rfl)
theorem dX0_pays_219 : decode cX0_pays 219 = .ok (.iinc 7 1, 3) := dk_132 7 1 (dk_at dksX0_pays_9 6 rfl rfl)
theorem dX0_pays_222 : decode cX0_pays 222 = .ok (.goto (-79), 3) := dk_167 255 177 (dk_at dksX0_pays_9 9 rfl rfl)
theorem dX0_pays_225 : decode cX0_pays 225 = .ok (.iinc 5 1, 3) := dk_132 5 1 (dk_at dksX0_pays_9 12 rfl rfl)
theorem dX0_pays_228 : decode cX0_pays 228 = .ok (.goto (-177), 3) := dk_167 255 79 (dk_at dksX0_pays_9 15 rfl rfl)
theorem dX0_pays_231 : decode cX0_pays 231 = .ok (.iinc 3 1, 3) := dk_132 3 1 (dk_at dksX0_pays_9 18 rfl rfl)
theorem dX0_pays_234 : decode cX0_pays 234 = .ok (.goto (-232), 3) := dk_167 255 24 (dk_at dksX0_pays_9 21 rfl rfl)
theorem dX0_pays_237 : decode cX0_pays 237 = .ok (.return_, 1) := dk_177 (dk_at dksX0_pays_10 0 rfl rfl)
abbrev cX0_turned : ByteArray := prog_1_method_57_code
def yX0_turned : MethodName := ⟨RX0, "turned", "(II)I"⟩
def dkwX0_turned_2 : List UInt8 := [62, 42, 2, 181, 0, 104, 29, 172]
abbrev dktX0_turned_2 : List UInt8 := dkwX0_turned_2 ++ []
def dkwX0_turned_1 : List UInt8 := [180, 0, 19, 180, 0, 195, 182, 0, 175, 154, 0, 5, 2, 172, 42, 27, 181, 0, 104, 42, 28, 182, 1, 102]
abbrev dktX0_turned_1 : List UInt8 := dkwX0_turned_1 ++ dktX0_turned_2
def dkwX0_turned_0 : List UInt8 := [42, 27, 182, 1, 1, 153, 0, 29, 42, 28, 182, 1, 99, 153, 0, 21, 42, 180, 0, 12, 27, 42]
abbrev dktX0_turned_0 : List UInt8 := dkwX0_turned_0 ++ dktX0_turned_1
theorem dksX0_turned_0 : cX0_turned.data.toList.drop 0 = dktX0_turned_0 := by decide +kernel
theorem dksX0_turned_1 : cX0_turned.data.toList.drop 22 = dktX0_turned_1 := dk_seg dksX0_turned_0 22 rfl rfl
theorem dksX0_turned_2 : cX0_turned.data.toList.drop 46 = dktX0_turned_2 := dk_seg dksX0_turned_1 24 rfl rfl
theorem dX0_turned_0 : decode cX0_turned 0 = .ok (.aload_n 0, 1) := dk_42 (dk_at dksX0_turned_0 0 rfl rfl)
theorem dX0_turned_1 : decode cX0_turned 1 = .ok (.iload_n 1, 1) := dk_27 (dk_at dksX0_turned_0 1 rfl rfl)
theorem dX0_turned_2 : decode cX0_turned 2 = .ok (.invokevirtual 257, 3) := dk_182 1 1 (dk_at dksX0_turned_0 2 rfl rfl)
theorem dX0_turned_5 : decode cX0_turned 5 = .ok (.ifCond .eq 29, 3) := dk_153 0 29 (dk_at dksX0_turned_0 5 rfl rfl)
theorem dX0_turned_8 : decode cX0_turned 8 = .ok (.aload_n 0, 1) := dk_42 (dk_at dksX0_turned_0 8 rfl rfl)
theorem dX0_turned_9 : decode cX0_turned 9 = .ok (.iload_n 2, 1) := dk_28 (dk_at dksX0_turned_0 9 rfl rfl)
theorem dX0_turned_10 : decode cX0_turned 10 = .ok (.invokevirtual 355, 3) := dk_182 1 99 (dk_at dksX0_turned_0 10 rfl rfl)
theorem dX0_turned_13 : decode cX0_turned 13 = .ok (.ifCond .eq 21, 3) := dk_153 0 21 (dk_at dksX0_turned_0 13 rfl rfl)
theorem dX0_turned_16 : decode cX0_turned 16 = .ok (.aload_n 0, 1) := dk_42 (dk_at dksX0_turned_0 16 rfl rfl)
theorem dX0_turned_17 : decode cX0_turned 17 = .ok (.getfield 12, 3) := dk_180 0 12 (dk_at dksX0_turned_0 17 rfl rfl)
theorem dX0_turned_20 : decode cX0_turned 20 = .ok (.iload_n 1, 1) := dk_27 (dk_at dksX0_turned_0 20 rfl rfl)
theorem dX0_turned_21 : decode cX0_turned 21 = .ok (.aload_n 0, 1) := dk_42 (dk_at dksX0_turned_0 21 rfl rfl)
theorem dX0_turned_22 : decode cX0_turned 22 = .ok (.getfield 19, 3) := dk_180 0 19 (dk_at dksX0_turned_1 0 rfl rfl)
theorem dX0_turned_25 : decode cX0_turned 25 = .ok (.getfield 195, 3) := dk_180 0 195 (dk_at dksX0_turned_1 3 rfl rfl)
theorem dX0_turned_28 : decode cX0_turned 28 = .ok (.invokevirtual 175, 3) := dk_182 0 175 (dk_at dksX0_turned_1 6 rfl rfl)
theorem dX0_turned_31 : decode cX0_turned 31 = .ok (.ifCond .ne 5, 3) := dk_154 0 5 (dk_at dksX0_turned_1 9 rfl rfl)
theorem dX0_turned_34 : decode cX0_turned 34 = .ok (.iconst (-1), 1) := dk_2 (dk_at dksX0_turned_1 12 rfl rfl)
theorem dX0_turned_35 : decode cX0_turned 35 = .ok (.ireturn, 1) := dk_172 (dk_at dksX0_turned_1 13 rfl rfl)
theorem dX0_turned_36 : decode cX0_turned 36 = .ok (.aload_n 0, 1) := dk_42 (dk_at dksX0_turned_1 14 rfl rfl)
theorem dX0_turned_37 : decode cX0_turned 37 = .ok (.iload_n 1, 1) := dk_27 (dk_at dksX0_turned_1 15 rfl rfl)
theorem dX0_turned_38 : decode cX0_turned 38 = .ok (.putfield 104, 3) := dk_181 0 104 (dk_at dksX0_turned_1 16 rfl rfl)
theorem dX0_turned_41 : decode cX0_turned 41 = .ok (.aload_n 0, 1) := dk_42 (dk_at dksX0_turned_1 19 rfl rfl)
theorem dX0_turned_42 : decode cX0_turned 42 = .ok (.iload_n 2, 1) := dk_28 (dk_at dksX0_turned_1 20 rfl rfl)
theorem dX0_turned_43 : decode cX0_turned 43 = .ok (.invokevirtual 358, 3) := dk_182 1 102 (dk_at dksX0_turned_1 21 rfl rfl)
theorem dX0_turned_46 : decode cX0_turned 46 = .ok (.istore_n 3, 1) := dk_62 (dk_at dksX0_turned_2 0 rfl rfl)
theorem dX0_turned_47 : decode cX0_turned 47 = .ok (.aload_n 0, 1) := dk_42 (dk_at dksX0_turned_2 1 rfl rfl)
theorem dX0_turned_48 : decode cX0_turned 48 = .ok (.iconst (-1), 1) := dk_2 (dk_at dksX0_turned_2 2 rfl rfl)
theorem dX0_turned_49 : decode cX0_turned 49 = .ok (.putfield 104, 3) := dk_181 0 104 (dk_at dksX0_turned_2 3 rfl rfl)
theorem dX0_turned_52 : decode cX0_turned 52 = .ok (.iload_n 3, 1) := dk_29 (dk_at dksX0_turned_2 6 rfl rfl)
theorem dX0_turned_53 : decode cX0_turned 53 = .ok (.ireturn, 1) := dk_172 (dk_at dksX0_turned_2 7 rfl rfl)
abbrev cX0_swap : ByteArray := prog_1_method_59_code
def yX0_swap : MethodName := ⟨RX0, "swap", "(I)I"⟩
def dkwX0_swap_5 : List UInt8 := [154, 0, 7, 28, 167, 0, 14, 27, 4, 160, 0, 7, 29, 167, 0, 5, 21, 4, 172]
abbrev dktX0_swap_5 : List UInt8 := dkwX0_swap_5 ++ []
def dkwX0_swap_4 : List UInt8 := [167, 0, 5, 21, 4, 54, 4, 132, 2, 1, 132, 6, 1, 167, 255, 200, 132, 5, 1, 167, 255, 176, 27]
abbrev dktX0_swap_4 : List UInt8 := dkwX0_swap_4 ++ dktX0_swap_5
def dkwX0_swap_3 : List UInt8 := [154, 0, 6, 167, 0, 30, 28, 154, 0, 8, 21, 5, 167, 0, 4, 29, 62, 28, 154, 0, 8, 21, 6]
abbrev dktX0_swap_3 : List UInt8 := dkwX0_swap_3 ++ dktX0_swap_4
def dkwX0_swap_2 : List UInt8 := [4, 96, 54, 6, 21, 6, 42, 180, 0, 12, 182, 0, 125, 162, 0, 50, 42, 21, 5, 21, 6, 182, 1, 114]
abbrev dktX0_swap_2 : List UInt8 := dkwX0_swap_2 ++ dktX0_swap_3
def dkwX0_swap_1 : List UInt8 := [16, 254, 62, 16, 254, 54, 4, 3, 54, 5, 21, 5, 42, 180, 0, 12, 182, 0, 125, 162, 0, 74, 21, 5]
abbrev dktX0_swap_1 : List UInt8 := dkwX0_swap_1 ++ dktX0_swap_2
def dkwX0_swap_0 : List UInt8 := [42, 182, 0, 139, 153, 0, 15, 27, 133, 9, 20, 1, 105, 184, 0, 129, 154, 0, 5, 2, 172, 3, 61]
abbrev dktX0_swap_0 : List UInt8 := dkwX0_swap_0 ++ dktX0_swap_1
theorem dksX0_swap_0 : cX0_swap.data.toList.drop 0 = dktX0_swap_0 := by decide +kernel
theorem dksX0_swap_1 : cX0_swap.data.toList.drop 23 = dktX0_swap_1 := dk_seg dksX0_swap_0 23 rfl rfl
theorem dksX0_swap_2 : cX0_swap.data.toList.drop 47 = dktX0_swap_2 := dk_seg dksX0_swap_1 24 rfl rfl
theorem dksX0_swap_3 : cX0_swap.data.toList.drop 71 = dktX0_swap_3 := dk_seg dksX0_swap_2 24 rfl rfl
theorem dksX0_swap_4 : cX0_swap.data.toList.drop 94 = dktX0_swap_4 := dk_seg dksX0_swap_3 23 rfl rfl
theorem dksX0_swap_5 : cX0_swap.data.toList.drop 117 = dktX0_swap_5 := dk_seg dksX0_swap_4 23 rfl rfl
theorem dX0_swap_0 : decode cX0_swap 0 = .ok (.aload_n 0, 1) := dk_42 (dk_at dksX0_swap_0 0 rfl rfl)
theorem dX0_swap_1 : decode cX0_swap 1 = .ok (.invokevirtual 139, 3) := dk_182 0 139 (dk_at dksX0_swap_0 1 rfl rfl)
theorem dX0_swap_4 : decode cX0_swap 4 = .ok (.ifCond .eq 15, 3) := dk_153 0 15 (dk_at dksX0_swap_0 4 rfl rfl)
theorem dX0_swap_7 : decode cX0_swap 7 = .ok (.iload_n 1, 1) := dk_27 (dk_at dksX0_swap_0 7 rfl rfl)
theorem dX0_swap_8 : decode cX0_swap 8 = .ok (.i2l, 1) := dk_133 (dk_at dksX0_swap_0 8 rfl rfl)
theorem dX0_swap_9 : decode cX0_swap 9 = .ok (.lconst 0, 1) := dk_9 (dk_at dksX0_swap_0 9 rfl rfl)
theorem dX0_swap_10 : decode cX0_swap 10 = .ok (.ldc2_w 361, 3) := dk_20 1 105 (dk_at dksX0_swap_0 10 rfl rfl)
theorem dX0_swap_13 : decode cX0_swap 13 = .ok (.invokestatic 129, 3) := dk_184 0 129 (dk_at dksX0_swap_0 13 rfl rfl)
theorem dX0_swap_16 : decode cX0_swap 16 = .ok (.ifCond .ne 5, 3) := dk_154 0 5 (dk_at dksX0_swap_0 16 rfl rfl)
theorem dX0_swap_19 : decode cX0_swap 19 = .ok (.iconst (-1), 1) := dk_2 (dk_at dksX0_swap_0 19 rfl rfl)
theorem dX0_swap_20 : decode cX0_swap 20 = .ok (.ireturn, 1) := dk_172 (dk_at dksX0_swap_0 20 rfl rfl)
theorem dX0_swap_21 : decode cX0_swap 21 = .ok (.iconst 0, 1) := dk_3 (dk_at dksX0_swap_0 21 rfl rfl)
theorem dX0_swap_22 : decode cX0_swap 22 = .ok (.istore_n 2, 1) := dk_61 (dk_at dksX0_swap_0 22 rfl rfl)
theorem dX0_swap_23 : decode cX0_swap 23 = .ok (.bipush (-2), 2) := dk_16 254 (dk_at dksX0_swap_1 0 rfl rfl)
theorem dX0_swap_25 : decode cX0_swap 25 = .ok (.istore_n 3, 1) := dk_62 (dk_at dksX0_swap_1 2 rfl rfl)
theorem dX0_swap_26 : decode cX0_swap 26 = .ok (.bipush (-2), 2) := dk_16 254 (dk_at dksX0_swap_1 3 rfl rfl)
theorem dX0_swap_28 : decode cX0_swap 28 = .ok (.istore 4, 2) := dk_54 4 (dk_at dksX0_swap_1 5 rfl rfl)
theorem dX0_swap_30 : decode cX0_swap 30 = .ok (.iconst 0, 1) := dk_3 (dk_at dksX0_swap_1 7 rfl rfl)
theorem dX0_swap_31 : decode cX0_swap 31 = .ok (.istore 5, 2) := dk_54 5 (dk_at dksX0_swap_1 8 rfl rfl)
theorem dX0_swap_33 : decode cX0_swap 33 = .ok (.iload 5, 2) := dk_21 5 (dk_at dksX0_swap_1 10 rfl rfl)
theorem dX0_swap_35 : decode cX0_swap 35 = .ok (.aload_n 0, 1) := dk_42 (dk_at dksX0_swap_1 12 rfl rfl)
theorem dX0_swap_36 : decode cX0_swap 36 = .ok (.getfield 12, 3) := dk_180 0 12 (dk_at dksX0_swap_1 13 rfl rfl)
theorem dX0_swap_39 : decode cX0_swap 39 = .ok (.invokevirtual 125, 3) := dk_182 0 125 (dk_at dksX0_swap_1 16 rfl rfl)
theorem dX0_swap_42 : decode cX0_swap 42 = .ok (.if_icmp .ge 74, 3) := dk_162 0 74 (dk_at dksX0_swap_1 19 rfl rfl)
theorem dX0_swap_45 : decode cX0_swap 45 = .ok (.iload 5, 2) := dk_21 5 (dk_at dksX0_swap_1 22 rfl rfl)
theorem dX0_swap_47 : decode cX0_swap 47 = .ok (.iconst 1, 1) := dk_4 (dk_at dksX0_swap_2 0 rfl rfl)
theorem dX0_swap_48 : decode cX0_swap 48 = .ok (.iadd, 1) := dk_96 (dk_at dksX0_swap_2 1 rfl rfl)
theorem dX0_swap_49 : decode cX0_swap 49 = .ok (.istore 6, 2) := dk_54 6 (dk_at dksX0_swap_2 2 rfl rfl)
theorem dX0_swap_51 : decode cX0_swap 51 = .ok (.iload 6, 2) := dk_21 6 (dk_at dksX0_swap_2 4 rfl rfl)
theorem dX0_swap_53 : decode cX0_swap 53 = .ok (.aload_n 0, 1) := dk_42 (dk_at dksX0_swap_2 6 rfl rfl)
theorem dX0_swap_54 : decode cX0_swap 54 = .ok (.getfield 12, 3) := dk_180 0 12 (dk_at dksX0_swap_2 7 rfl rfl)
theorem dX0_swap_57 : decode cX0_swap 57 = .ok (.invokevirtual 125, 3) := dk_182 0 125 (dk_at dksX0_swap_2 10 rfl rfl)
theorem dX0_swap_60 : decode cX0_swap 60 = .ok (.if_icmp .ge 50, 3) := dk_162 0 50 (dk_at dksX0_swap_2 13 rfl rfl)
theorem dX0_swap_63 : decode cX0_swap 63 = .ok (.aload_n 0, 1) := dk_42 (dk_at dksX0_swap_2 16 rfl rfl)
theorem dX0_swap_64 : decode cX0_swap 64 = .ok (.iload 5, 2) := dk_21 5 (dk_at dksX0_swap_2 17 rfl rfl)
theorem dX0_swap_66 : decode cX0_swap 66 = .ok (.iload 6, 2) := dk_21 6 (dk_at dksX0_swap_2 19 rfl rfl)
theorem dX0_swap_68 : decode cX0_swap 68 = .ok (.invokevirtual 370, 3) := dk_182 1 114 (dk_at dksX0_swap_2 21 rfl rfl)
theorem dX0_swap_71 : decode cX0_swap 71 = .ok (.ifCond .ne 6, 3) := dk_154 0 6 (dk_at dksX0_swap_3 0 rfl rfl)
theorem dX0_swap_74 : decode cX0_swap 74 = .ok (.goto 30, 3) := dk_167 0 30 (dk_at dksX0_swap_3 3 rfl rfl)
theorem dX0_swap_77 : decode cX0_swap 77 = .ok (.iload_n 2, 1) := dk_28 (dk_at dksX0_swap_3 6 rfl rfl)
theorem dX0_swap_78 : decode cX0_swap 78 = .ok (.ifCond .ne 8, 3) := dk_154 0 8 (dk_at dksX0_swap_3 7 rfl rfl)
theorem dX0_swap_81 : decode cX0_swap 81 = .ok (.iload 5, 2) := dk_21 5 (dk_at dksX0_swap_3 10 rfl rfl)
theorem dX0_swap_83 : decode cX0_swap 83 = .ok (.goto 4, 3) := dk_167 0 4 (dk_at dksX0_swap_3 12 rfl rfl)
theorem dX0_swap_86 : decode cX0_swap 86 = .ok (.iload_n 3, 1) := dk_29 (dk_at dksX0_swap_3 15 rfl rfl)
theorem dX0_swap_87 : decode cX0_swap 87 = .ok (.istore_n 3, 1) := dk_62 (dk_at dksX0_swap_3 16 rfl rfl)
theorem dX0_swap_88 : decode cX0_swap 88 = .ok (.iload_n 2, 1) := dk_28 (dk_at dksX0_swap_3 17 rfl rfl)
theorem dX0_swap_89 : decode cX0_swap 89 = .ok (.ifCond .ne 8, 3) := dk_154 0 8 (dk_at dksX0_swap_3 18 rfl rfl)
theorem dX0_swap_92 : decode cX0_swap 92 = .ok (.iload 6, 2) := dk_21 6 (dk_at dksX0_swap_3 21 rfl rfl)
theorem dX0_swap_94 : decode cX0_swap 94 = .ok (.goto 5, 3) := dk_167 0 5 (dk_at dksX0_swap_4 0 rfl rfl)
theorem dX0_swap_97 : decode cX0_swap 97 = .ok (.iload 4, 2) := dk_21 4 (dk_at dksX0_swap_4 3 rfl rfl)
theorem dX0_swap_99 : decode cX0_swap 99 = .ok (.istore 4, 2) := dk_54 4 (dk_at dksX0_swap_4 5 rfl rfl)
theorem dX0_swap_101 : decode cX0_swap 101 = .ok (.iinc 2 1, 3) := dk_132 2 1 (dk_at dksX0_swap_4 7 rfl rfl)
theorem dX0_swap_104 : decode cX0_swap 104 = .ok (.iinc 6 1, 3) := dk_132 6 1 (dk_at dksX0_swap_4 10 rfl rfl)
theorem dX0_swap_107 : decode cX0_swap 107 = .ok (.goto (-56), 3) := dk_167 255 200 (dk_at dksX0_swap_4 13 rfl rfl)
theorem dX0_swap_110 : decode cX0_swap 110 = .ok (.iinc 5 1, 3) := dk_132 5 1 (dk_at dksX0_swap_4 16 rfl rfl)
theorem dX0_swap_113 : decode cX0_swap 113 = .ok (.goto (-80), 3) := dk_167 255 176 (dk_at dksX0_swap_4 19 rfl rfl)
theorem dX0_swap_116 : decode cX0_swap 116 = .ok (.iload_n 1, 1) := dk_27 (dk_at dksX0_swap_4 22 rfl rfl)
theorem dX0_swap_117 : decode cX0_swap 117 = .ok (.ifCond .ne 7, 3) := dk_154 0 7 (dk_at dksX0_swap_5 0 rfl rfl)
theorem dX0_swap_120 : decode cX0_swap 120 = .ok (.iload_n 2, 1) := dk_28 (dk_at dksX0_swap_5 3 rfl rfl)
theorem dX0_swap_121 : decode cX0_swap 121 = .ok (.goto 14, 3) := dk_167 0 14 (dk_at dksX0_swap_5 4 rfl rfl)
theorem dX0_swap_124 : decode cX0_swap 124 = .ok (.iload_n 1, 1) := dk_27 (dk_at dksX0_swap_5 7 rfl rfl)
theorem dX0_swap_125 : decode cX0_swap 125 = .ok (.iconst 1, 1) := dk_4 (dk_at dksX0_swap_5 8 rfl rfl)
theorem dX0_swap_126 : decode cX0_swap 126 = .ok (.if_icmp .ne 7, 3) := dk_160 0 7 (dk_at dksX0_swap_5 9 rfl rfl)
theorem dX0_swap_129 : decode cX0_swap 129 = .ok (.iload_n 3, 1) := dk_29 (dk_at dksX0_swap_5 12 rfl rfl)
theorem dX0_swap_130 : decode cX0_swap 130 = .ok (.goto 5, 3) := dk_167 0 5 (dk_at dksX0_swap_5 13 rfl rfl)
theorem dX0_swap_133 : decode cX0_swap 133 = .ok (.iload 4, 2) := dk_21 4 (dk_at dksX0_swap_5 16 rfl rfl)
theorem dX0_swap_135 : decode cX0_swap 135 = .ok (.ireturn, 1) := dk_172 (dk_at dksX0_swap_5 18 rfl rfl)
abbrev cX0_wouldSwap : ByteArray := prog_1_method_58_code
def yX0_wouldSwap : MethodName := ⟨RX0, "wouldSwap", "(II)Z"⟩
def dkwX0_wouldSwap_4 : List UInt8 := [172]
abbrev dktX0_wouldSwap_4 : List UInt8 := dkwX0_wouldSwap_4 ++ []
def dkwX0_wouldSwap_3 : List UInt8 := [180, 0, 19, 28, 42, 180, 0, 19, 180, 0, 202, 28, 46, 182, 0, 205, 162, 0, 7, 4, 167, 0, 4, 3]
abbrev dktX0_wouldSwap_3 : List UInt8 := dkwX0_wouldSwap_3 ++ dktX0_wouldSwap_4
def dkwX0_wouldSwap_2 : List UInt8 := [153, 0, 46, 42, 42, 180, 0, 19, 28, 42, 180, 0, 19, 180, 0, 202, 27, 46, 182, 0, 205, 42, 42]
abbrev dktX0_wouldSwap_2 : List UInt8 := dkwX0_wouldSwap_2 ++ dktX0_wouldSwap_3
def dkwX0_wouldSwap_1 : List UInt8 := [42, 180, 0, 19, 180, 0, 202, 27, 46, 182, 0, 205, 162, 0, 7, 4, 167, 0, 4, 3, 62, 29]
abbrev dktX0_wouldSwap_1 : List UInt8 := dkwX0_wouldSwap_1 ++ dktX0_wouldSwap_2
def dkwX0_wouldSwap_0 : List UInt8 := [42, 42, 180, 0, 19, 27, 42, 180, 0, 19, 180, 0, 202, 28, 46, 182, 0, 205, 42, 42, 180, 0, 19, 27]
abbrev dktX0_wouldSwap_0 : List UInt8 := dkwX0_wouldSwap_0 ++ dktX0_wouldSwap_1
theorem dksX0_wouldSwap_0 : cX0_wouldSwap.data.toList.drop 0 = dktX0_wouldSwap_0 := by decide +kernel
theorem dksX0_wouldSwap_1 : cX0_wouldSwap.data.toList.drop 24 = dktX0_wouldSwap_1 := dk_seg dksX0_wouldSwap_0 24 rfl rfl
theorem dksX0_wouldSwap_2 : cX0_wouldSwap.data.toList.drop 46 = dktX0_wouldSwap_2 := dk_seg dksX0_wouldSwap_1 22 rfl rfl
theorem dksX0_wouldSwap_3 : cX0_wouldSwap.data.toList.drop 69 = dktX0_wouldSwap_3 := dk_seg dksX0_wouldSwap_2 23 rfl rfl
theorem dksX0_wouldSwap_4 : cX0_wouldSwap.data.toList.drop 93 = dktX0_wouldSwap_4 := dk_seg dksX0_wouldSwap_3 24 rfl rfl
theorem dX0_wouldSwap_0 : decode cX0_wouldSwap 0 = .ok (.aload_n 0, 1) := dk_42 (dk_at dksX0_wouldSwap_0 0 rfl rfl)
theorem dX0_wouldSwap_1 : decode cX0_wouldSwap 1 = .ok (.aload_n 0, 1) := dk_42 (dk_at dksX0_wouldSwap_0 1 rfl rfl)
theorem dX0_wouldSwap_2 : decode cX0_wouldSwap 2 = .ok (.getfield 19, 3) := dk_180 0 19 (dk_at dksX0_wouldSwap_0 2 rfl rfl)
theorem dX0_wouldSwap_5 : decode cX0_wouldSwap 5 = .ok (.iload_n 1, 1) := dk_27 (dk_at dksX0_wouldSwap_0 5 rfl rfl)
theorem dX0_wouldSwap_6 : decode cX0_wouldSwap 6 = .ok (.aload_n 0, 1) := dk_42 (dk_at dksX0_wouldSwap_0 6 rfl rfl)
theorem dX0_wouldSwap_7 : decode cX0_wouldSwap 7 = .ok (.getfield 19, 3) := dk_180 0 19 (dk_at dksX0_wouldSwap_0 7 rfl rfl)
theorem dX0_wouldSwap_10 : decode cX0_wouldSwap 10 = .ok (.getfield 202, 3) := dk_180 0 202 (dk_at dksX0_wouldSwap_0 10 rfl rfl)
theorem dX0_wouldSwap_13 : decode cX0_wouldSwap 13 = .ok (.iload_n 2, 1) := dk_28 (dk_at dksX0_wouldSwap_0 13 rfl rfl)
theorem dX0_wouldSwap_14 : decode cX0_wouldSwap 14 = .ok (.iaload, 1) := dk_46 (dk_at dksX0_wouldSwap_0 14 rfl rfl)
theorem dX0_wouldSwap_15 : decode cX0_wouldSwap 15 = .ok (.invokevirtual 205, 3) := dk_182 0 205 (dk_at dksX0_wouldSwap_0 15 rfl rfl)
theorem dX0_wouldSwap_18 : decode cX0_wouldSwap 18 = .ok (.aload_n 0, 1) := dk_42 (dk_at dksX0_wouldSwap_0 18 rfl rfl)
theorem dX0_wouldSwap_19 : decode cX0_wouldSwap 19 = .ok (.aload_n 0, 1) := dk_42 (dk_at dksX0_wouldSwap_0 19 rfl rfl)
theorem dX0_wouldSwap_20 : decode cX0_wouldSwap 20 = .ok (.getfield 19, 3) := dk_180 0 19 (dk_at dksX0_wouldSwap_0 20 rfl rfl)
theorem dX0_wouldSwap_23 : decode cX0_wouldSwap 23 = .ok (.iload_n 1, 1) := dk_27 (dk_at dksX0_wouldSwap_0 23 rfl rfl)
theorem dX0_wouldSwap_24 : decode cX0_wouldSwap 24 = .ok (.aload_n 0, 1) := dk_42 (dk_at dksX0_wouldSwap_1 0 rfl rfl)
theorem dX0_wouldSwap_25 : decode cX0_wouldSwap 25 = .ok (.getfield 19, 3) := dk_180 0 19 (dk_at dksX0_wouldSwap_1 1 rfl rfl)
theorem dX0_wouldSwap_28 : decode cX0_wouldSwap 28 = .ok (.getfield 202, 3) := dk_180 0 202 (dk_at dksX0_wouldSwap_1 4 rfl rfl)
theorem dX0_wouldSwap_31 : decode cX0_wouldSwap 31 = .ok (.iload_n 1, 1) := dk_27 (dk_at dksX0_wouldSwap_1 7 rfl rfl)
theorem dX0_wouldSwap_32 : decode cX0_wouldSwap 32 = .ok (.iaload, 1) := dk_46 (dk_at dksX0_wouldSwap_1 8 rfl rfl)
theorem dX0_wouldSwap_33 : decode cX0_wouldSwap 33 = .ok (.invokevirtual 205, 3) := dk_182 0 205 (dk_at dksX0_wouldSwap_1 9 rfl rfl)
theorem dX0_wouldSwap_36 : decode cX0_wouldSwap 36 = .ok (.if_icmp .ge 7, 3) := dk_162 0 7 (dk_at dksX0_wouldSwap_1 12 rfl rfl)
theorem dX0_wouldSwap_39 : decode cX0_wouldSwap 39 = .ok (.iconst 1, 1) := dk_4 (dk_at dksX0_wouldSwap_1 15 rfl rfl)
theorem dX0_wouldSwap_40 : decode cX0_wouldSwap 40 = .ok (.goto 4, 3) := dk_167 0 4 (dk_at dksX0_wouldSwap_1 16 rfl rfl)
theorem dX0_wouldSwap_43 : decode cX0_wouldSwap 43 = .ok (.iconst 0, 1) := dk_3 (dk_at dksX0_wouldSwap_1 19 rfl rfl)
theorem dX0_wouldSwap_44 : decode cX0_wouldSwap 44 = .ok (.istore_n 3, 1) := dk_62 (dk_at dksX0_wouldSwap_1 20 rfl rfl)
theorem dX0_wouldSwap_45 : decode cX0_wouldSwap 45 = .ok (.iload_n 3, 1) := dk_29 (dk_at dksX0_wouldSwap_1 21 rfl rfl)
theorem dX0_wouldSwap_46 : decode cX0_wouldSwap 46 = .ok (.ifCond .eq 46, 3) := dk_153 0 46 (dk_at dksX0_wouldSwap_2 0 rfl rfl)
theorem dX0_wouldSwap_49 : decode cX0_wouldSwap 49 = .ok (.aload_n 0, 1) := dk_42 (dk_at dksX0_wouldSwap_2 3 rfl rfl)
theorem dX0_wouldSwap_50 : decode cX0_wouldSwap 50 = .ok (.aload_n 0, 1) := dk_42 (dk_at dksX0_wouldSwap_2 4 rfl rfl)
theorem dX0_wouldSwap_51 : decode cX0_wouldSwap 51 = .ok (.getfield 19, 3) := dk_180 0 19 (dk_at dksX0_wouldSwap_2 5 rfl rfl)
theorem dX0_wouldSwap_54 : decode cX0_wouldSwap 54 = .ok (.iload_n 2, 1) := dk_28 (dk_at dksX0_wouldSwap_2 8 rfl rfl)
theorem dX0_wouldSwap_55 : decode cX0_wouldSwap 55 = .ok (.aload_n 0, 1) := dk_42 (dk_at dksX0_wouldSwap_2 9 rfl rfl)
theorem dX0_wouldSwap_56 : decode cX0_wouldSwap 56 = .ok (.getfield 19, 3) := dk_180 0 19 (dk_at dksX0_wouldSwap_2 10 rfl rfl)
theorem dX0_wouldSwap_59 : decode cX0_wouldSwap 59 = .ok (.getfield 202, 3) := dk_180 0 202 (dk_at dksX0_wouldSwap_2 13 rfl rfl)
theorem dX0_wouldSwap_62 : decode cX0_wouldSwap 62 = .ok (.iload_n 1, 1) := dk_27 (dk_at dksX0_wouldSwap_2 16 rfl rfl)
theorem dX0_wouldSwap_63 : decode cX0_wouldSwap 63 = .ok (.iaload, 1) := dk_46 (dk_at dksX0_wouldSwap_2 17 rfl rfl)
theorem dX0_wouldSwap_64 : decode cX0_wouldSwap 64 = .ok (.invokevirtual 205, 3) := dk_182 0 205 (dk_at dksX0_wouldSwap_2 18 rfl rfl)
theorem dX0_wouldSwap_67 : decode cX0_wouldSwap 67 = .ok (.aload_n 0, 1) := dk_42 (dk_at dksX0_wouldSwap_2 21 rfl rfl)
theorem dX0_wouldSwap_68 : decode cX0_wouldSwap 68 = .ok (.aload_n 0, 1) := dk_42 (dk_at dksX0_wouldSwap_2 22 rfl rfl)
theorem dX0_wouldSwap_69 : decode cX0_wouldSwap 69 = .ok (.getfield 19, 3) := dk_180 0 19 (dk_at dksX0_wouldSwap_3 0 rfl rfl)
theorem dX0_wouldSwap_72 : decode cX0_wouldSwap 72 = .ok (.iload_n 2, 1) := dk_28 (dk_at dksX0_wouldSwap_3 3 rfl rfl)
theorem dX0_wouldSwap_73 : decode cX0_wouldSwap 73 = .ok (.aload_n 0, 1) := dk_42 (dk_at dksX0_wouldSwap_3 4 rfl rfl)
theorem dX0_wouldSwap_74 : decode cX0_wouldSwap 74 = .ok (.getfield 19, 3) := dk_180 0 19 (dk_at dksX0_wouldSwap_3 5 rfl rfl)
theorem dX0_wouldSwap_77 : decode cX0_wouldSwap 77 = .ok (.getfield 202, 3) := dk_180 0 202 (dk_at dksX0_wouldSwap_3 8 rfl rfl)
theorem dX0_wouldSwap_80 : decode cX0_wouldSwap 80 = .ok (.iload_n 2, 1) := dk_28 (dk_at dksX0_wouldSwap_3 11 rfl rfl)
theorem dX0_wouldSwap_81 : decode cX0_wouldSwap 81 = .ok (.iaload, 1) := dk_46 (dk_at dksX0_wouldSwap_3 12 rfl rfl)
theorem dX0_wouldSwap_82 : decode cX0_wouldSwap 82 = .ok (.invokevirtual 205, 3) := dk_182 0 205 (dk_at dksX0_wouldSwap_3 13 rfl rfl)
theorem dX0_wouldSwap_85 : decode cX0_wouldSwap 85 = .ok (.if_icmp .ge 7, 3) := dk_162 0 7 (dk_at dksX0_wouldSwap_3 16 rfl rfl)
theorem dX0_wouldSwap_88 : decode cX0_wouldSwap 88 = .ok (.iconst 1, 1) := dk_4 (dk_at dksX0_wouldSwap_3 19 rfl rfl)
theorem dX0_wouldSwap_89 : decode cX0_wouldSwap 89 = .ok (.goto 4, 3) := dk_167 0 4 (dk_at dksX0_wouldSwap_3 20 rfl rfl)
theorem dX0_wouldSwap_92 : decode cX0_wouldSwap 92 = .ok (.iconst 0, 1) := dk_3 (dk_at dksX0_wouldSwap_3 23 rfl rfl)
theorem dX0_wouldSwap_93 : decode cX0_wouldSwap 93 = .ok (.ireturn, 1) := dk_172 (dk_at dksX0_wouldSwap_4 0 rfl rfl)
abbrev cX0_note : ByteArray := prog_1_method_60_code
def yX0_note : MethodName := ⟨RX0, "note", "(III)I"⟩
def dkwX0_note_4 : List UInt8 := [180, 0, 164, 172]
abbrev dktX0_note_4 : List UInt8 := dkwX0_note_4 ++ []
def dkwX0_note_3 : List UInt8 := [28, 79, 42, 180, 0, 57, 42, 180, 0, 164, 29, 79, 42, 89, 180, 0, 164, 4, 96, 181, 0, 164, 42]
abbrev dktX0_note_3 : List UInt8 := dkwX0_note_3 ++ dktX0_note_4
def dkwX0_note_2 : List UInt8 := [160, 0, 6, 16, 254, 172, 42, 180, 0, 50, 42, 180, 0, 164, 27, 79, 42, 180, 0, 54, 42, 180, 0, 164]
abbrev dktX0_note_2 : List UInt8 := dkwX0_note_2 ++ dktX0_note_3
def dkwX0_note_1 : List UInt8 := [42, 28, 182, 0, 216, 153, 0, 20, 42, 29, 182, 0, 245, 153, 0, 12, 42, 180, 0, 164, 16, 10]
abbrev dktX0_note_1 : List UInt8 := dkwX0_note_1 ++ dktX0_note_2
def dkwX0_note_0 : List UInt8 := [27, 2, 160, 0, 10, 42, 3, 181, 0, 164, 3, 172, 27, 133, 9, 20, 1, 117, 184, 0, 129, 153, 0, 28]
abbrev dktX0_note_0 : List UInt8 := dkwX0_note_0 ++ dktX0_note_1
theorem dksX0_note_0 : cX0_note.data.toList.drop 0 = dktX0_note_0 := by decide +kernel
theorem dksX0_note_1 : cX0_note.data.toList.drop 24 = dktX0_note_1 := dk_seg dksX0_note_0 24 rfl rfl
theorem dksX0_note_2 : cX0_note.data.toList.drop 46 = dktX0_note_2 := dk_seg dksX0_note_1 22 rfl rfl
theorem dksX0_note_3 : cX0_note.data.toList.drop 70 = dktX0_note_3 := dk_seg dksX0_note_2 24 rfl rfl
theorem dksX0_note_4 : cX0_note.data.toList.drop 93 = dktX0_note_4 := dk_seg dksX0_note_3 23 rfl rfl
theorem dX0_note_0 : decode cX0_note 0 = .ok (.iload_n 1, 1) := dk_27 (dk_at dksX0_note_0 0 rfl rfl)
theorem dX0_note_1 : decode cX0_note 1 = .ok (.iconst (-1), 1) := dk_2 (dk_at dksX0_note_0 1 rfl rfl)
theorem dX0_note_2 : decode cX0_note 2 = .ok (.if_icmp .ne 10, 3) := dk_160 0 10 (dk_at dksX0_note_0 2 rfl rfl)
theorem dX0_note_5 : decode cX0_note 5 = .ok (.aload_n 0, 1) := dk_42 (dk_at dksX0_note_0 5 rfl rfl)
theorem dX0_note_6 : decode cX0_note 6 = .ok (.iconst 0, 1) := dk_3 (dk_at dksX0_note_0 6 rfl rfl)
theorem dX0_note_7 : decode cX0_note 7 = .ok (.putfield 164, 3) := dk_181 0 164 (dk_at dksX0_note_0 7 rfl rfl)
theorem dX0_note_10 : decode cX0_note 10 = .ok (.iconst 0, 1) := dk_3 (dk_at dksX0_note_0 10 rfl rfl)
theorem dX0_note_11 : decode cX0_note 11 = .ok (.ireturn, 1) := dk_172 (dk_at dksX0_note_0 11 rfl rfl)
theorem dX0_note_12 : decode cX0_note 12 = .ok (.iload_n 1, 1) := dk_27 (dk_at dksX0_note_0 12 rfl rfl)
theorem dX0_note_13 : decode cX0_note 13 = .ok (.i2l, 1) := dk_133 (dk_at dksX0_note_0 13 rfl rfl)
theorem dX0_note_14 : decode cX0_note 14 = .ok (.lconst 0, 1) := dk_9 (dk_at dksX0_note_0 14 rfl rfl)
theorem dX0_note_15 : decode cX0_note 15 = .ok (.ldc2_w 373, 3) := dk_20 1 117 (dk_at dksX0_note_0 15 rfl rfl)
theorem dX0_note_18 : decode cX0_note 18 = .ok (.invokestatic 129, 3) := dk_184 0 129 (dk_at dksX0_note_0 18 rfl rfl)
theorem dX0_note_21 : decode cX0_note 21 = .ok (.ifCond .eq 28, 3) := dk_153 0 28 (dk_at dksX0_note_0 21 rfl rfl)
theorem dX0_note_24 : decode cX0_note 24 = .ok (.aload_n 0, 1) := dk_42 (dk_at dksX0_note_1 0 rfl rfl)
theorem dX0_note_25 : decode cX0_note 25 = .ok (.iload_n 2, 1) := dk_28 (dk_at dksX0_note_1 1 rfl rfl)
theorem dX0_note_26 : decode cX0_note 26 = .ok (.invokevirtual 216, 3) := dk_182 0 216 (dk_at dksX0_note_1 2 rfl rfl)
theorem dX0_note_29 : decode cX0_note 29 = .ok (.ifCond .eq 20, 3) := dk_153 0 20 (dk_at dksX0_note_1 5 rfl rfl)
theorem dX0_note_32 : decode cX0_note 32 = .ok (.aload_n 0, 1) := dk_42 (dk_at dksX0_note_1 8 rfl rfl)
theorem dX0_note_33 : decode cX0_note 33 = .ok (.iload_n 3, 1) := dk_29 (dk_at dksX0_note_1 9 rfl rfl)
theorem dX0_note_34 : decode cX0_note 34 = .ok (.invokevirtual 245, 3) := dk_182 0 245 (dk_at dksX0_note_1 10 rfl rfl)
theorem dX0_note_37 : decode cX0_note 37 = .ok (.ifCond .eq 12, 3) := dk_153 0 12 (dk_at dksX0_note_1 13 rfl rfl)
theorem dX0_note_40 : decode cX0_note 40 = .ok (.aload_n 0, 1) := dk_42 (dk_at dksX0_note_1 16 rfl rfl)
theorem dX0_note_41 : decode cX0_note 41 = .ok (.getfield 164, 3) := dk_180 0 164 (dk_at dksX0_note_1 17 rfl rfl)
theorem dX0_note_44 : decode cX0_note 44 = .ok (.bipush 10, 2) := dk_16 10 (dk_at dksX0_note_1 20 rfl rfl)
theorem dX0_note_46 : decode cX0_note 46 = .ok (.if_icmp .ne 6, 3) := dk_160 0 6 (dk_at dksX0_note_2 0 rfl rfl)
theorem dX0_note_49 : decode cX0_note 49 = .ok (.bipush (-2), 2) := dk_16 254 (dk_at dksX0_note_2 3 rfl rfl)
theorem dX0_note_51 : decode cX0_note 51 = .ok (.ireturn, 1) := dk_172 (dk_at dksX0_note_2 5 rfl rfl)
theorem dX0_note_52 : decode cX0_note 52 = .ok (.aload_n 0, 1) := dk_42 (dk_at dksX0_note_2 6 rfl rfl)
theorem dX0_note_53 : decode cX0_note 53 = .ok (.getfield 50, 3) := dk_180 0 50 (dk_at dksX0_note_2 7 rfl rfl)
theorem dX0_note_56 : decode cX0_note 56 = .ok (.aload_n 0, 1) := dk_42 (dk_at dksX0_note_2 10 rfl rfl)
theorem dX0_note_57 : decode cX0_note 57 = .ok (.getfield 164, 3) := dk_180 0 164 (dk_at dksX0_note_2 11 rfl rfl)
theorem dX0_note_60 : decode cX0_note 60 = .ok (.iload_n 1, 1) := dk_27 (dk_at dksX0_note_2 14 rfl rfl)
theorem dX0_note_61 : decode cX0_note 61 = .ok (.iastore, 1) := dk_79 (dk_at dksX0_note_2 15 rfl rfl)
theorem dX0_note_62 : decode cX0_note 62 = .ok (.aload_n 0, 1) := dk_42 (dk_at dksX0_note_2 16 rfl rfl)
theorem dX0_note_63 : decode cX0_note 63 = .ok (.getfield 54, 3) := dk_180 0 54 (dk_at dksX0_note_2 17 rfl rfl)
theorem dX0_note_66 : decode cX0_note 66 = .ok (.aload_n 0, 1) := dk_42 (dk_at dksX0_note_2 20 rfl rfl)
theorem dX0_note_67 : decode cX0_note 67 = .ok (.getfield 164, 3) := dk_180 0 164 (dk_at dksX0_note_2 21 rfl rfl)
theorem dX0_note_70 : decode cX0_note 70 = .ok (.iload_n 2, 1) := dk_28 (dk_at dksX0_note_3 0 rfl rfl)
theorem dX0_note_71 : decode cX0_note 71 = .ok (.iastore, 1) := dk_79 (dk_at dksX0_note_3 1 rfl rfl)
theorem dX0_note_72 : decode cX0_note 72 = .ok (.aload_n 0, 1) := dk_42 (dk_at dksX0_note_3 2 rfl rfl)
theorem dX0_note_73 : decode cX0_note 73 = .ok (.getfield 57, 3) := dk_180 0 57 (dk_at dksX0_note_3 3 rfl rfl)
theorem dX0_note_76 : decode cX0_note 76 = .ok (.aload_n 0, 1) := dk_42 (dk_at dksX0_note_3 6 rfl rfl)
theorem dX0_note_77 : decode cX0_note 77 = .ok (.getfield 164, 3) := dk_180 0 164 (dk_at dksX0_note_3 7 rfl rfl)
theorem dX0_note_80 : decode cX0_note 80 = .ok (.iload_n 3, 1) := dk_29 (dk_at dksX0_note_3 10 rfl rfl)
theorem dX0_note_81 : decode cX0_note 81 = .ok (.iastore, 1) := dk_79 (dk_at dksX0_note_3 11 rfl rfl)
theorem dX0_note_82 : decode cX0_note 82 = .ok (.aload_n 0, 1) := dk_42 (dk_at dksX0_note_3 12 rfl rfl)
theorem dX0_note_83 : decode cX0_note 83 = .ok (.dup, 1) := dk_89 (dk_at dksX0_note_3 13 rfl rfl)
theorem dX0_note_84 : decode cX0_note 84 = .ok (.getfield 164, 3) := dk_180 0 164 (dk_at dksX0_note_3 14 rfl rfl)
theorem dX0_note_87 : decode cX0_note 87 = .ok (.iconst 1, 1) := dk_4 (dk_at dksX0_note_3 17 rfl rfl)
theorem dX0_note_88 : decode cX0_note 88 = .ok (.iadd, 1) := dk_96 (dk_at dksX0_note_3 18 rfl rfl)
theorem dX0_note_89 : decode cX0_note 89 = .ok (.putfield 164, 3) := dk_181 0 164 (dk_at dksX0_note_3 19 rfl rfl)
theorem dX0_note_92 : decode cX0_note 92 = .ok (.aload_n 0, 1) := dk_42 (dk_at dksX0_note_3 22 rfl rfl)
theorem dX0_note_93 : decode cX0_note 93 = .ok (.getfield 164, 3) := dk_180 0 164 (dk_at dksX0_note_4 0 rfl rfl)
theorem dX0_note_96 : decode cX0_note 96 = .ok (.ireturn, 1) := dk_172 (dk_at dksX0_note_4 3 rfl rfl)
abbrev cX0_ruled : ByteArray := prog_1_method_63_code
def yX0_ruled : MethodName := ⟨RX0, "ruled", "(I)I"⟩
def dkwX0_ruled_3 : List UInt8 := [167, 255, 215, 27, 154, 0, 7, 28, 167, 0, 4, 29, 172]
abbrev dktX0_ruled_3 : List UInt8 := dkwX0_ruled_3 ++ []
def dkwX0_ruled_2 : List UInt8 := [154, 0, 6, 167, 0, 17, 28, 154, 0, 8, 21, 4, 167, 0, 4, 29, 62, 132, 2, 1, 132, 4, 1]
abbrev dktX0_ruled_2 : List UInt8 := dkwX0_ruled_2 ++ dktX0_ruled_3
def dkwX0_ruled_1 : List UInt8 := [62, 2, 54, 4, 21, 4, 42, 180, 0, 31, 182, 0, 136, 162, 0, 35, 42, 21, 4, 182, 1, 122]
abbrev dktX0_ruled_1 : List UInt8 := dkwX0_ruled_1 ++ dktX0_ruled_2
def dkwX0_ruled_0 : List UInt8 := [42, 182, 0, 139, 153, 0, 13, 27, 133, 9, 10, 184, 0, 129, 154, 0, 6, 16, 253, 172, 3, 61, 16, 254]
abbrev dktX0_ruled_0 : List UInt8 := dkwX0_ruled_0 ++ dktX0_ruled_1
theorem dksX0_ruled_0 : cX0_ruled.data.toList.drop 0 = dktX0_ruled_0 := by decide +kernel
theorem dksX0_ruled_1 : cX0_ruled.data.toList.drop 24 = dktX0_ruled_1 := dk_seg dksX0_ruled_0 24 rfl rfl
theorem dksX0_ruled_2 : cX0_ruled.data.toList.drop 46 = dktX0_ruled_2 := dk_seg dksX0_ruled_1 22 rfl rfl
theorem dksX0_ruled_3 : cX0_ruled.data.toList.drop 69 = dktX0_ruled_3 := dk_seg dksX0_ruled_2 23 rfl rfl
theorem dX0_ruled_0 : decode cX0_ruled 0 = .ok (.aload_n 0, 1) := dk_42 (dk_at dksX0_ruled_0 0 rfl rfl)
theorem dX0_ruled_1 : decode cX0_ruled 1 = .ok (.invokevirtual 139, 3) := dk_182 0 139 (dk_at dksX0_ruled_0 1 rfl rfl)
theorem dX0_ruled_4 : decode cX0_ruled 4 = .ok (.ifCond .eq 13, 3) := dk_153 0 13 (dk_at dksX0_ruled_0 4 rfl rfl)
theorem dX0_ruled_7 : decode cX0_ruled 7 = .ok (.iload_n 1, 1) := dk_27 (dk_at dksX0_ruled_0 7 rfl rfl)
theorem dX0_ruled_8 : decode cX0_ruled 8 = .ok (.i2l, 1) := dk_133 (dk_at dksX0_ruled_0 8 rfl rfl)
theorem dX0_ruled_9 : decode cX0_ruled 9 = .ok (.lconst 0, 1) := dk_9 (dk_at dksX0_ruled_0 9 rfl rfl)
theorem dX0_ruled_10 : decode cX0_ruled 10 = .ok (.lconst 1, 1) := dk_10 (dk_at dksX0_ruled_0 10 rfl rfl)
theorem dX0_ruled_11 : decode cX0_ruled 11 = .ok (.invokestatic 129, 3) := dk_184 0 129 (dk_at dksX0_ruled_0 11 rfl rfl)
theorem dX0_ruled_14 : decode cX0_ruled 14 = .ok (.ifCond .ne 6, 3) := dk_154 0 6 (dk_at dksX0_ruled_0 14 rfl rfl)
theorem dX0_ruled_17 : decode cX0_ruled 17 = .ok (.bipush (-3), 2) := dk_16 253 (dk_at dksX0_ruled_0 17 rfl rfl)
theorem dX0_ruled_19 : decode cX0_ruled 19 = .ok (.ireturn, 1) := dk_172 (dk_at dksX0_ruled_0 19 rfl rfl)
theorem dX0_ruled_20 : decode cX0_ruled 20 = .ok (.iconst 0, 1) := dk_3 (dk_at dksX0_ruled_0 20 rfl rfl)
theorem dX0_ruled_21 : decode cX0_ruled 21 = .ok (.istore_n 2, 1) := dk_61 (dk_at dksX0_ruled_0 21 rfl rfl)
theorem dX0_ruled_22 : decode cX0_ruled 22 = .ok (.bipush (-2), 2) := dk_16 254 (dk_at dksX0_ruled_0 22 rfl rfl)
theorem dX0_ruled_24 : decode cX0_ruled 24 = .ok (.istore_n 3, 1) := dk_62 (dk_at dksX0_ruled_1 0 rfl rfl)
theorem dX0_ruled_25 : decode cX0_ruled 25 = .ok (.iconst (-1), 1) := dk_2 (dk_at dksX0_ruled_1 1 rfl rfl)
theorem dX0_ruled_26 : decode cX0_ruled 26 = .ok (.istore 4, 2) := dk_54 4 (dk_at dksX0_ruled_1 2 rfl rfl)
theorem dX0_ruled_28 : decode cX0_ruled 28 = .ok (.iload 4, 2) := dk_21 4 (dk_at dksX0_ruled_1 4 rfl rfl)
theorem dX0_ruled_30 : decode cX0_ruled 30 = .ok (.aload_n 0, 1) := dk_42 (dk_at dksX0_ruled_1 6 rfl rfl)
theorem dX0_ruled_31 : decode cX0_ruled 31 = .ok (.getfield 31, 3) := dk_180 0 31 (dk_at dksX0_ruled_1 7 rfl rfl)
theorem dX0_ruled_34 : decode cX0_ruled 34 = .ok (.invokevirtual 136, 3) := dk_182 0 136 (dk_at dksX0_ruled_1 10 rfl rfl)
theorem dX0_ruled_37 : decode cX0_ruled 37 = .ok (.if_icmp .ge 35, 3) := dk_162 0 35 (dk_at dksX0_ruled_1 13 rfl rfl)
theorem dX0_ruled_40 : decode cX0_ruled 40 = .ok (.aload_n 0, 1) := dk_42 (dk_at dksX0_ruled_1 16 rfl rfl)
theorem dX0_ruled_41 : decode cX0_ruled 41 = .ok (.iload 4, 2) := dk_21 4 (dk_at dksX0_ruled_1 17 rfl rfl)
theorem dX0_ruled_43 : decode cX0_ruled 43 = .ok (.invokevirtual 378, 3) := dk_182 1 122 (dk_at dksX0_ruled_1 19 rfl rfl)
theorem dX0_ruled_46 : decode cX0_ruled 46 = .ok (.ifCond .ne 6, 3) := dk_154 0 6 (dk_at dksX0_ruled_2 0 rfl rfl)
theorem dX0_ruled_49 : decode cX0_ruled 49 = .ok (.goto 17, 3) := dk_167 0 17 (dk_at dksX0_ruled_2 3 rfl rfl)
theorem dX0_ruled_52 : decode cX0_ruled 52 = .ok (.iload_n 2, 1) := dk_28 (dk_at dksX0_ruled_2 6 rfl rfl)
theorem dX0_ruled_53 : decode cX0_ruled 53 = .ok (.ifCond .ne 8, 3) := dk_154 0 8 (dk_at dksX0_ruled_2 7 rfl rfl)
theorem dX0_ruled_56 : decode cX0_ruled 56 = .ok (.iload 4, 2) := dk_21 4 (dk_at dksX0_ruled_2 10 rfl rfl)
theorem dX0_ruled_58 : decode cX0_ruled 58 = .ok (.goto 4, 3) := dk_167 0 4 (dk_at dksX0_ruled_2 12 rfl rfl)
theorem dX0_ruled_61 : decode cX0_ruled 61 = .ok (.iload_n 3, 1) := dk_29 (dk_at dksX0_ruled_2 15 rfl rfl)
theorem dX0_ruled_62 : decode cX0_ruled 62 = .ok (.istore_n 3, 1) := dk_62 (dk_at dksX0_ruled_2 16 rfl rfl)
theorem dX0_ruled_63 : decode cX0_ruled 63 = .ok (.iinc 2 1, 3) := dk_132 2 1 (dk_at dksX0_ruled_2 17 rfl rfl)
theorem dX0_ruled_66 : decode cX0_ruled 66 = .ok (.iinc 4 1, 3) := dk_132 4 1 (dk_at dksX0_ruled_2 20 rfl rfl)
theorem dX0_ruled_69 : decode cX0_ruled 69 = .ok (.goto (-41), 3) := dk_167 255 215 (dk_at dksX0_ruled_3 0 rfl rfl)
theorem dX0_ruled_72 : decode cX0_ruled 72 = .ok (.iload_n 1, 1) := dk_27 (dk_at dksX0_ruled_3 3 rfl rfl)
theorem dX0_ruled_73 : decode cX0_ruled 73 = .ok (.ifCond .ne 7, 3) := dk_154 0 7 (dk_at dksX0_ruled_3 4 rfl rfl)
theorem dX0_ruled_76 : decode cX0_ruled 76 = .ok (.iload_n 2, 1) := dk_28 (dk_at dksX0_ruled_3 7 rfl rfl)
theorem dX0_ruled_77 : decode cX0_ruled 77 = .ok (.goto 4, 3) := dk_167 0 4 (dk_at dksX0_ruled_3 8 rfl rfl)
theorem dX0_ruled_80 : decode cX0_ruled 80 = .ok (.iload_n 3, 1) := dk_29 (dk_at dksX0_ruled_3 11 rfl rfl)
theorem dX0_ruled_81 : decode cX0_ruled 81 = .ok (.ireturn, 1) := dk_172 (dk_at dksX0_ruled_3 12 rfl rfl)
abbrev cX0_couldRule : ByteArray := prog_1_method_62_code
def yX0_couldRule : MethodName := ⟨RX0, "couldRule", "(I)Z"⟩
def dkwX0_couldRule_0 : List UInt8 := [42, 180, 0, 35, 61, 42, 27, 181, 0, 35, 42, 182, 1, 119, 62, 42, 28, 181, 0, 35, 29, 172]
abbrev dktX0_couldRule_0 : List UInt8 := dkwX0_couldRule_0 ++ []
theorem dksX0_couldRule_0 : cX0_couldRule.data.toList.drop 0 = dktX0_couldRule_0 := by decide +kernel
theorem dX0_couldRule_0 : decode cX0_couldRule 0 = .ok (.aload_n 0, 1) := dk_42 (dk_at dksX0_couldRule_0 0 rfl rfl)
theorem dX0_couldRule_1 : decode cX0_couldRule 1 = .ok (.getfield 35, 3) := dk_180 0 35 (dk_at dksX0_couldRule_0 1 rfl rfl)
theorem dX0_couldRule_4 : decode cX0_couldRule 4 = .ok (.istore_n 2, 1) := dk_61 (dk_at dksX0_couldRule_0 4 rfl rfl)
theorem dX0_couldRule_5 : decode cX0_couldRule 5 = .ok (.aload_n 0, 1) := dk_42 (dk_at dksX0_couldRule_0 5 rfl rfl)
theorem dX0_couldRule_6 : decode cX0_couldRule 6 = .ok (.iload_n 1, 1) := dk_27 (dk_at dksX0_couldRule_0 6 rfl rfl)
theorem dX0_couldRule_7 : decode cX0_couldRule 7 = .ok (.putfield 35, 3) := dk_181 0 35 (dk_at dksX0_couldRule_0 7 rfl rfl)
theorem dX0_couldRule_10 : decode cX0_couldRule 10 = .ok (.aload_n 0, 1) := dk_42 (dk_at dksX0_couldRule_0 10 rfl rfl)
theorem dX0_couldRule_11 : decode cX0_couldRule 11 = .ok (.invokevirtual 375, 3) := dk_182 1 119 (dk_at dksX0_couldRule_0 11 rfl rfl)
theorem dX0_couldRule_14 : decode cX0_couldRule 14 = .ok (.istore_n 3, 1) := dk_62 (dk_at dksX0_couldRule_0 14 rfl rfl)
theorem dX0_couldRule_15 : decode cX0_couldRule 15 = .ok (.aload_n 0, 1) := dk_42 (dk_at dksX0_couldRule_0 15 rfl rfl)
theorem dX0_couldRule_16 : decode cX0_couldRule 16 = .ok (.iload_n 2, 1) := dk_28 (dk_at dksX0_couldRule_0 16 rfl rfl)
theorem dX0_couldRule_17 : decode cX0_couldRule 17 = .ok (.putfield 35, 3) := dk_181 0 35 (dk_at dksX0_couldRule_0 17 rfl rfl)
theorem dX0_couldRule_20 : decode cX0_couldRule 20 = .ok (.iload_n 3, 1) := dk_29 (dk_at dksX0_couldRule_0 20 rfl rfl)
theorem dX0_couldRule_21 : decode cX0_couldRule 21 = .ok (.ireturn, 1) := dk_172 (dk_at dksX0_couldRule_0 21 rfl rfl)
abbrev cX0_areNotesSo : ByteArray := prog_1_method_61_code
def yX0_areNotesSo : MethodName := ⟨RX0, "areNotesSo", "()Z"⟩
def dkwX0_areNotesSo_3 : List UInt8 := [42, 180, 0, 23, 182, 1, 59, 87, 132, 1, 1, 167, 255, 187, 4, 172]
abbrev dktX0_areNotesSo_3 : List UInt8 := dkwX0_areNotesSo_3 ++ []
def dkwX0_areNotesSo_2 : List UInt8 := [180, 0, 54, 28, 46, 46, 42, 180, 0, 57, 28, 46, 159, 0, 5, 3, 172, 132, 2, 1, 167, 255, 210, 42]
abbrev dktX0_areNotesSo_2 : List UInt8 := dkwX0_areNotesSo_2 ++ dktX0_areNotesSo_3
def dkwX0_areNotesSo_1 : List UInt8 := [180, 0, 164, 162, 0, 44, 42, 180, 0, 50, 28, 46, 27, 160, 0, 28, 42, 180, 0, 23, 180, 0, 202, 42]
abbrev dktX0_areNotesSo_1 : List UInt8 := dkwX0_areNotesSo_1 ++ dktX0_areNotesSo_2
def dkwX0_areNotesSo_0 : List UInt8 := [42, 180, 0, 23, 42, 180, 0, 12, 182, 0, 160, 3, 60, 27, 16, 60, 163, 0, 69, 3, 61, 28, 42]
abbrev dktX0_areNotesSo_0 : List UInt8 := dkwX0_areNotesSo_0 ++ dktX0_areNotesSo_1
theorem dksX0_areNotesSo_0 : cX0_areNotesSo.data.toList.drop 0 = dktX0_areNotesSo_0 := by decide +kernel
theorem dksX0_areNotesSo_1 : cX0_areNotesSo.data.toList.drop 23 = dktX0_areNotesSo_1 := dk_seg dksX0_areNotesSo_0 23 rfl rfl
theorem dksX0_areNotesSo_2 : cX0_areNotesSo.data.toList.drop 47 = dktX0_areNotesSo_2 := dk_seg dksX0_areNotesSo_1 24 rfl rfl
theorem dksX0_areNotesSo_3 : cX0_areNotesSo.data.toList.drop 71 = dktX0_areNotesSo_3 := dk_seg dksX0_areNotesSo_2 24 rfl rfl
theorem dX0_areNotesSo_0 : decode cX0_areNotesSo 0 = .ok (.aload_n 0, 1) := dk_42 (dk_at dksX0_areNotesSo_0 0 rfl rfl)
theorem dX0_areNotesSo_1 : decode cX0_areNotesSo 1 = .ok (.getfield 23, 3) := dk_180 0 23 (dk_at dksX0_areNotesSo_0 1 rfl rfl)
theorem dX0_areNotesSo_4 : decode cX0_areNotesSo 4 = .ok (.aload_n 0, 1) := dk_42 (dk_at dksX0_areNotesSo_0 4 rfl rfl)
theorem dX0_areNotesSo_5 : decode cX0_areNotesSo 5 = .ok (.getfield 12, 3) := dk_180 0 12 (dk_at dksX0_areNotesSo_0 5 rfl rfl)
theorem dX0_areNotesSo_8 : decode cX0_areNotesSo 8 = .ok (.invokevirtual 160, 3) := dk_182 0 160 (dk_at dksX0_areNotesSo_0 8 rfl rfl)
theorem dX0_areNotesSo_11 : decode cX0_areNotesSo 11 = .ok (.iconst 0, 1) := dk_3 (dk_at dksX0_areNotesSo_0 11 rfl rfl)
theorem dX0_areNotesSo_12 : decode cX0_areNotesSo 12 = .ok (.istore_n 1, 1) := dk_60 (dk_at dksX0_areNotesSo_0 12 rfl rfl)
theorem dX0_areNotesSo_13 : decode cX0_areNotesSo 13 = .ok (.iload_n 1, 1) := dk_27 (dk_at dksX0_areNotesSo_0 13 rfl rfl)
theorem dX0_areNotesSo_14 : decode cX0_areNotesSo 14 = .ok (.bipush 60, 2) := dk_16 60 (dk_at dksX0_areNotesSo_0 14 rfl rfl)
theorem dX0_areNotesSo_16 : decode cX0_areNotesSo 16 = .ok (.if_icmp .gt 69, 3) := dk_163 0 69 (dk_at dksX0_areNotesSo_0 16 rfl rfl)
theorem dX0_areNotesSo_19 : decode cX0_areNotesSo 19 = .ok (.iconst 0, 1) := dk_3 (dk_at dksX0_areNotesSo_0 19 rfl rfl)
theorem dX0_areNotesSo_20 : decode cX0_areNotesSo 20 = .ok (.istore_n 2, 1) := dk_61 (dk_at dksX0_areNotesSo_0 20 rfl rfl)
theorem dX0_areNotesSo_21 : decode cX0_areNotesSo 21 = .ok (.iload_n 2, 1) := dk_28 (dk_at dksX0_areNotesSo_0 21 rfl rfl)
theorem dX0_areNotesSo_22 : decode cX0_areNotesSo 22 = .ok (.aload_n 0, 1) := dk_42 (dk_at dksX0_areNotesSo_0 22 rfl rfl)
theorem dX0_areNotesSo_23 : decode cX0_areNotesSo 23 = .ok (.getfield 164, 3) := dk_180 0 164 (dk_at dksX0_areNotesSo_1 0 rfl rfl)
theorem dX0_areNotesSo_26 : decode cX0_areNotesSo 26 = .ok (.if_icmp .ge 44, 3) := dk_162 0 44 (dk_at dksX0_areNotesSo_1 3 rfl rfl)
theorem dX0_areNotesSo_29 : decode cX0_areNotesSo 29 = .ok (.aload_n 0, 1) := dk_42 (dk_at dksX0_areNotesSo_1 6 rfl rfl)
theorem dX0_areNotesSo_30 : decode cX0_areNotesSo 30 = .ok (.getfield 50, 3) := dk_180 0 50 (dk_at dksX0_areNotesSo_1 7 rfl rfl)
theorem dX0_areNotesSo_33 : decode cX0_areNotesSo 33 = .ok (.iload_n 2, 1) := dk_28 (dk_at dksX0_areNotesSo_1 10 rfl rfl)
theorem dX0_areNotesSo_34 : decode cX0_areNotesSo 34 = .ok (.iaload, 1) := dk_46 (dk_at dksX0_areNotesSo_1 11 rfl rfl)
theorem dX0_areNotesSo_35 : decode cX0_areNotesSo 35 = .ok (.iload_n 1, 1) := dk_27 (dk_at dksX0_areNotesSo_1 12 rfl rfl)
theorem dX0_areNotesSo_36 : decode cX0_areNotesSo 36 = .ok (.if_icmp .ne 28, 3) := dk_160 0 28 (dk_at dksX0_areNotesSo_1 13 rfl rfl)
theorem dX0_areNotesSo_39 : decode cX0_areNotesSo 39 = .ok (.aload_n 0, 1) := dk_42 (dk_at dksX0_areNotesSo_1 16 rfl rfl)
theorem dX0_areNotesSo_40 : decode cX0_areNotesSo 40 = .ok (.getfield 23, 3) := dk_180 0 23 (dk_at dksX0_areNotesSo_1 17 rfl rfl)
theorem dX0_areNotesSo_43 : decode cX0_areNotesSo 43 = .ok (.getfield 202, 3) := dk_180 0 202 (dk_at dksX0_areNotesSo_1 20 rfl rfl)
theorem dX0_areNotesSo_46 : decode cX0_areNotesSo 46 = .ok (.aload_n 0, 1) := dk_42 (dk_at dksX0_areNotesSo_1 23 rfl rfl)
theorem dX0_areNotesSo_47 : decode cX0_areNotesSo 47 = .ok (.getfield 54, 3) := dk_180 0 54 (dk_at dksX0_areNotesSo_2 0 rfl rfl)
theorem dX0_areNotesSo_50 : decode cX0_areNotesSo 50 = .ok (.iload_n 2, 1) := dk_28 (dk_at dksX0_areNotesSo_2 3 rfl rfl)
theorem dX0_areNotesSo_51 : decode cX0_areNotesSo 51 = .ok (.iaload, 1) := dk_46 (dk_at dksX0_areNotesSo_2 4 rfl rfl)
theorem dX0_areNotesSo_52 : decode cX0_areNotesSo 52 = .ok (.iaload, 1) := dk_46 (dk_at dksX0_areNotesSo_2 5 rfl rfl)
theorem dX0_areNotesSo_53 : decode cX0_areNotesSo 53 = .ok (.aload_n 0, 1) := dk_42 (dk_at dksX0_areNotesSo_2 6 rfl rfl)
theorem dX0_areNotesSo_54 : decode cX0_areNotesSo 54 = .ok (.getfield 57, 3) := dk_180 0 57 (dk_at dksX0_areNotesSo_2 7 rfl rfl)
theorem dX0_areNotesSo_57 : decode cX0_areNotesSo 57 = .ok (.iload_n 2, 1) := dk_28 (dk_at dksX0_areNotesSo_2 10 rfl rfl)
theorem dX0_areNotesSo_58 : decode cX0_areNotesSo 58 = .ok (.iaload, 1) := dk_46 (dk_at dksX0_areNotesSo_2 11 rfl rfl)
theorem dX0_areNotesSo_59 : decode cX0_areNotesSo 59 = .ok (.if_icmp .eq 5, 3) := dk_159 0 5 (dk_at dksX0_areNotesSo_2 12 rfl rfl)
theorem dX0_areNotesSo_62 : decode cX0_areNotesSo 62 = .ok (.iconst 0, 1) := dk_3 (dk_at dksX0_areNotesSo_2 15 rfl rfl)
theorem dX0_areNotesSo_63 : decode cX0_areNotesSo 63 = .ok (.ireturn, 1) := dk_172 (dk_at dksX0_areNotesSo_2 16 rfl rfl)
theorem dX0_areNotesSo_64 : decode cX0_areNotesSo 64 = .ok (.iinc 2 1, 3) := dk_132 2 1 (dk_at dksX0_areNotesSo_2 17 rfl rfl)
theorem dX0_areNotesSo_67 : decode cX0_areNotesSo 67 = .ok (.goto (-46), 3) := dk_167 255 210 (dk_at dksX0_areNotesSo_2 20 rfl rfl)
theorem dX0_areNotesSo_70 : decode cX0_areNotesSo 70 = .ok (.aload_n 0, 1) := dk_42 (dk_at dksX0_areNotesSo_2 23 rfl rfl)
theorem dX0_areNotesSo_71 : decode cX0_areNotesSo 71 = .ok (.aload_n 0, 1) := dk_42 (dk_at dksX0_areNotesSo_3 0 rfl rfl)
theorem dX0_areNotesSo_72 : decode cX0_areNotesSo 72 = .ok (.getfield 23, 3) := dk_180 0 23 (dk_at dksX0_areNotesSo_3 1 rfl rfl)
theorem dX0_areNotesSo_75 : decode cX0_areNotesSo 75 = .ok (.invokevirtual 315, 3) := dk_182 1 59 (dk_at dksX0_areNotesSo_3 4 rfl rfl)
theorem dX0_areNotesSo_78 : decode cX0_areNotesSo 78 = .ok (.pop, 1) := dk_87 (dk_at dksX0_areNotesSo_3 7 rfl rfl)
theorem dX0_areNotesSo_79 : decode cX0_areNotesSo 79 = .ok (.iinc 1 1, 3) := dk_132 1 1 (dk_at dksX0_areNotesSo_3 8 rfl rfl)
theorem dX0_areNotesSo_82 : decode cX0_areNotesSo 82 = .ok (.goto (-69), 3) := dk_167 255 187 (dk_at dksX0_areNotesSo_3 11 rfl rfl)
theorem dX0_areNotesSo_85 : decode cX0_areNotesSo 85 = .ok (.iconst 1, 1) := dk_4 (dk_at dksX0_areNotesSo_3 14 rfl rfl)
theorem dX0_areNotesSo_86 : decode cX0_areNotesSo 86 = .ok (.ireturn, 1) := dk_172 (dk_at dksX0_areNotesSo_3 15 rfl rfl)
abbrev cX0_look : ByteArray := prog_1_method_66_code
def yX0_look : MethodName := ⟨RX0, "look", "(II)I"⟩
def dkwX0_look_4 : List UInt8 := [132, 5, 1, 167, 255, 220, 28, 154, 0, 8, 21, 4, 167, 0, 10, 42, 21, 4, 29, 182, 1, 131, 172]
abbrev dktX0_look_4 : List UInt8 := dkwX0_look_4 ++ []
def dkwX0_look_3 : List UInt8 := [162, 0, 30, 42, 21, 5, 29, 182, 1, 131, 42, 21, 4, 29, 182, 1, 131, 162, 0, 7, 21, 5, 54, 4]
abbrev dktX0_look_3 : List UInt8 := dkwX0_look_3 ++ dktX0_look_4
def dkwX0_look_2 : List UInt8 := [182, 0, 125, 154, 0, 6, 16, 254, 172, 3, 54, 4, 4, 54, 5, 21, 5, 42, 180, 0, 12, 182, 0, 125]
abbrev dktX0_look_2 : List UInt8 := dkwX0_look_2 ++ dktX0_look_3
def dkwX0_look_1 : List UInt8 := [184, 0, 129, 154, 0, 5, 2, 172, 42, 27, 182, 1, 128, 62, 29, 153, 0, 13, 42, 180, 0, 12]
abbrev dktX0_look_1 : List UInt8 := dkwX0_look_1 ++ dktX0_look_2
def dkwX0_look_0 : List UInt8 := [42, 182, 0, 139, 153, 0, 25, 27, 133, 9, 20, 1, 117, 184, 0, 129, 153, 0, 13, 28, 133, 9, 10]
abbrev dktX0_look_0 : List UInt8 := dkwX0_look_0 ++ dktX0_look_1
theorem dksX0_look_0 : cX0_look.data.toList.drop 0 = dktX0_look_0 := by decide +kernel
theorem dksX0_look_1 : cX0_look.data.toList.drop 23 = dktX0_look_1 := dk_seg dksX0_look_0 23 rfl rfl
theorem dksX0_look_2 : cX0_look.data.toList.drop 45 = dktX0_look_2 := dk_seg dksX0_look_1 22 rfl rfl
theorem dksX0_look_3 : cX0_look.data.toList.drop 69 = dktX0_look_3 := dk_seg dksX0_look_2 24 rfl rfl
theorem dksX0_look_4 : cX0_look.data.toList.drop 93 = dktX0_look_4 := dk_seg dksX0_look_3 24 rfl rfl
theorem dX0_look_0 : decode cX0_look 0 = .ok (.aload_n 0, 1) := dk_42 (dk_at dksX0_look_0 0 rfl rfl)
theorem dX0_look_1 : decode cX0_look 1 = .ok (.invokevirtual 139, 3) := dk_182 0 139 (dk_at dksX0_look_0 1 rfl rfl)
theorem dX0_look_4 : decode cX0_look 4 = .ok (.ifCond .eq 25, 3) := dk_153 0 25 (dk_at dksX0_look_0 4 rfl rfl)
theorem dX0_look_7 : decode cX0_look 7 = .ok (.iload_n 1, 1) := dk_27 (dk_at dksX0_look_0 7 rfl rfl)
theorem dX0_look_8 : decode cX0_look 8 = .ok (.i2l, 1) := dk_133 (dk_at dksX0_look_0 8 rfl rfl)
theorem dX0_look_9 : decode cX0_look 9 = .ok (.lconst 0, 1) := dk_9 (dk_at dksX0_look_0 9 rfl rfl)
theorem dX0_look_10 : decode cX0_look 10 = .ok (.ldc2_w 373, 3) := dk_20 1 117 (dk_at dksX0_look_0 10 rfl rfl)
theorem dX0_look_13 : decode cX0_look 13 = .ok (.invokestatic 129, 3) := dk_184 0 129 (dk_at dksX0_look_0 13 rfl rfl)
theorem dX0_look_16 : decode cX0_look 16 = .ok (.ifCond .eq 13, 3) := dk_153 0 13 (dk_at dksX0_look_0 16 rfl rfl)
theorem dX0_look_19 : decode cX0_look 19 = .ok (.iload_n 2, 1) := dk_28 (dk_at dksX0_look_0 19 rfl rfl)
theorem dX0_look_20 : decode cX0_look 20 = .ok (.i2l, 1) := dk_133 (dk_at dksX0_look_0 20 rfl rfl)
theorem dX0_look_21 : decode cX0_look 21 = .ok (.lconst 0, 1) := dk_9 (dk_at dksX0_look_0 21 rfl rfl)
theorem dX0_look_22 : decode cX0_look 22 = .ok (.lconst 1, 1) := dk_10 (dk_at dksX0_look_0 22 rfl rfl)
theorem dX0_look_23 : decode cX0_look 23 = .ok (.invokestatic 129, 3) := dk_184 0 129 (dk_at dksX0_look_1 0 rfl rfl)
theorem dX0_look_26 : decode cX0_look 26 = .ok (.ifCond .ne 5, 3) := dk_154 0 5 (dk_at dksX0_look_1 3 rfl rfl)
theorem dX0_look_29 : decode cX0_look 29 = .ok (.iconst (-1), 1) := dk_2 (dk_at dksX0_look_1 6 rfl rfl)
theorem dX0_look_30 : decode cX0_look 30 = .ok (.ireturn, 1) := dk_172 (dk_at dksX0_look_1 7 rfl rfl)
theorem dX0_look_31 : decode cX0_look 31 = .ok (.aload_n 0, 1) := dk_42 (dk_at dksX0_look_1 8 rfl rfl)
theorem dX0_look_32 : decode cX0_look 32 = .ok (.iload_n 1, 1) := dk_27 (dk_at dksX0_look_1 9 rfl rfl)
theorem dX0_look_33 : decode cX0_look 33 = .ok (.invokevirtual 384, 3) := dk_182 1 128 (dk_at dksX0_look_1 10 rfl rfl)
theorem dX0_look_36 : decode cX0_look 36 = .ok (.istore_n 3, 1) := dk_62 (dk_at dksX0_look_1 13 rfl rfl)
theorem dX0_look_37 : decode cX0_look 37 = .ok (.iload_n 3, 1) := dk_29 (dk_at dksX0_look_1 14 rfl rfl)
theorem dX0_look_38 : decode cX0_look 38 = .ok (.ifCond .eq 13, 3) := dk_153 0 13 (dk_at dksX0_look_1 15 rfl rfl)
theorem dX0_look_41 : decode cX0_look 41 = .ok (.aload_n 0, 1) := dk_42 (dk_at dksX0_look_1 18 rfl rfl)
theorem dX0_look_42 : decode cX0_look 42 = .ok (.getfield 12, 3) := dk_180 0 12 (dk_at dksX0_look_1 19 rfl rfl)
theorem dX0_look_45 : decode cX0_look 45 = .ok (.invokevirtual 125, 3) := dk_182 0 125 (dk_at dksX0_look_2 0 rfl rfl)
theorem dX0_look_48 : decode cX0_look 48 = .ok (.ifCond .ne 6, 3) := dk_154 0 6 (dk_at dksX0_look_2 3 rfl rfl)
theorem dX0_look_51 : decode cX0_look 51 = .ok (.bipush (-2), 2) := dk_16 254 (dk_at dksX0_look_2 6 rfl rfl)
theorem dX0_look_53 : decode cX0_look 53 = .ok (.ireturn, 1) := dk_172 (dk_at dksX0_look_2 8 rfl rfl)
theorem dX0_look_54 : decode cX0_look 54 = .ok (.iconst 0, 1) := dk_3 (dk_at dksX0_look_2 9 rfl rfl)
theorem dX0_look_55 : decode cX0_look 55 = .ok (.istore 4, 2) := dk_54 4 (dk_at dksX0_look_2 10 rfl rfl)
theorem dX0_look_57 : decode cX0_look 57 = .ok (.iconst 1, 1) := dk_4 (dk_at dksX0_look_2 12 rfl rfl)
theorem dX0_look_58 : decode cX0_look 58 = .ok (.istore 5, 2) := dk_54 5 (dk_at dksX0_look_2 13 rfl rfl)
theorem dX0_look_60 : decode cX0_look 60 = .ok (.iload 5, 2) := dk_21 5 (dk_at dksX0_look_2 15 rfl rfl)
theorem dX0_look_62 : decode cX0_look 62 = .ok (.aload_n 0, 1) := dk_42 (dk_at dksX0_look_2 17 rfl rfl)
theorem dX0_look_63 : decode cX0_look 63 = .ok (.getfield 12, 3) := dk_180 0 12 (dk_at dksX0_look_2 18 rfl rfl)
theorem dX0_look_66 : decode cX0_look 66 = .ok (.invokevirtual 125, 3) := dk_182 0 125 (dk_at dksX0_look_2 21 rfl rfl)
theorem dX0_look_69 : decode cX0_look 69 = .ok (.if_icmp .ge 30, 3) := dk_162 0 30 (dk_at dksX0_look_3 0 rfl rfl)
theorem dX0_look_72 : decode cX0_look 72 = .ok (.aload_n 0, 1) := dk_42 (dk_at dksX0_look_3 3 rfl rfl)
theorem dX0_look_73 : decode cX0_look 73 = .ok (.iload 5, 2) := dk_21 5 (dk_at dksX0_look_3 4 rfl rfl)
theorem dX0_look_75 : decode cX0_look 75 = .ok (.iload_n 3, 1) := dk_29 (dk_at dksX0_look_3 6 rfl rfl)
theorem dX0_look_76 : decode cX0_look 76 = .ok (.invokevirtual 387, 3) := dk_182 1 131 (dk_at dksX0_look_3 7 rfl rfl)
theorem dX0_look_79 : decode cX0_look 79 = .ok (.aload_n 0, 1) := dk_42 (dk_at dksX0_look_3 10 rfl rfl)
theorem dX0_look_80 : decode cX0_look 80 = .ok (.iload 4, 2) := dk_21 4 (dk_at dksX0_look_3 11 rfl rfl)
theorem dX0_look_82 : decode cX0_look 82 = .ok (.iload_n 3, 1) := dk_29 (dk_at dksX0_look_3 13 rfl rfl)
theorem dX0_look_83 : decode cX0_look 83 = .ok (.invokevirtual 387, 3) := dk_182 1 131 (dk_at dksX0_look_3 14 rfl rfl)
theorem dX0_look_86 : decode cX0_look 86 = .ok (.if_icmp .ge 7, 3) := dk_162 0 7 (dk_at dksX0_look_3 17 rfl rfl)
theorem dX0_look_89 : decode cX0_look 89 = .ok (.iload 5, 2) := dk_21 5 (dk_at dksX0_look_3 20 rfl rfl)
theorem dX0_look_91 : decode cX0_look 91 = .ok (.istore 4, 2) := dk_54 4 (dk_at dksX0_look_3 22 rfl rfl)
theorem dX0_look_93 : decode cX0_look 93 = .ok (.iinc 5 1, 3) := dk_132 5 1 (dk_at dksX0_look_4 0 rfl rfl)
theorem dX0_look_96 : decode cX0_look 96 = .ok (.goto (-36), 3) := dk_167 255 220 (dk_at dksX0_look_4 3 rfl rfl)
theorem dX0_look_99 : decode cX0_look 99 = .ok (.iload_n 2, 1) := dk_28 (dk_at dksX0_look_4 6 rfl rfl)
theorem dX0_look_100 : decode cX0_look 100 = .ok (.ifCond .ne 8, 3) := dk_154 0 8 (dk_at dksX0_look_4 7 rfl rfl)
theorem dX0_look_103 : decode cX0_look 103 = .ok (.iload 4, 2) := dk_21 4 (dk_at dksX0_look_4 10 rfl rfl)
theorem dX0_look_105 : decode cX0_look 105 = .ok (.goto 10, 3) := dk_167 0 10 (dk_at dksX0_look_4 12 rfl rfl)
theorem dX0_look_108 : decode cX0_look 108 = .ok (.aload_n 0, 1) := dk_42 (dk_at dksX0_look_4 15 rfl rfl)
theorem dX0_look_109 : decode cX0_look 109 = .ok (.iload 4, 2) := dk_21 4 (dk_at dksX0_look_4 16 rfl rfl)
theorem dX0_look_111 : decode cX0_look 111 = .ok (.iload_n 3, 1) := dk_29 (dk_at dksX0_look_4 18 rfl rfl)
theorem dX0_look_112 : decode cX0_look 112 = .ok (.invokevirtual 387, 3) := dk_182 1 131 (dk_at dksX0_look_4 19 rfl rfl)
theorem dX0_look_115 : decode cX0_look 115 = .ok (.ireturn, 1) := dk_172 (dk_at dksX0_look_4 22 rfl rfl)
abbrev cX0_laysRooms : ByteArray := prog_1_method_64_code
def yX0_laysRooms : MethodName := ⟨RX0, "laysRooms", "(I)I"⟩
def dkwX0_laysRooms_4 : List UInt8 := [21, 5, 46, 79, 132, 5, 1, 167, 255, 220, 132, 2, 1, 132, 3, 1, 167, 255, 153, 28, 172]
abbrev dktX0_laysRooms_4 : List UInt8 := dkwX0_laysRooms_4 ++ []
def dkwX0_laysRooms_3 : List UInt8 := [182, 0, 125, 162, 0, 30, 42, 180, 0, 114, 7, 28, 104, 21, 5, 96, 42, 180, 0, 23, 180, 0, 202]
abbrev dktX0_laysRooms_3 : List UInt8 := dkwX0_laysRooms_3 ++ dktX0_laysRooms_4
def dkwX0_laysRooms_2 : List UInt8 := [182, 0, 160, 42, 27, 182, 1, 69, 42, 21, 4, 181, 0, 35, 3, 54, 5, 21, 5, 42, 180, 0, 12]
abbrev dktX0_laysRooms_2 : List UInt8 := dkwX0_laysRooms_2 ++ dktX0_laysRooms_3
def dkwX0_laysRooms_1 : List UInt8 := [167, 0, 81, 42, 180, 0, 35, 54, 4, 42, 29, 181, 0, 35, 42, 180, 0, 23, 42, 180, 0, 12]
abbrev dktX0_laysRooms_1 : List UInt8 := dkwX0_laysRooms_1 ++ dktX0_laysRooms_2
def dkwX0_laysRooms_0 : List UInt8 := [3, 61, 2, 62, 29, 42, 180, 0, 31, 182, 0, 136, 162, 0, 98, 42, 29, 182, 1, 122, 154, 0, 6]
abbrev dktX0_laysRooms_0 : List UInt8 := dkwX0_laysRooms_0 ++ dktX0_laysRooms_1
theorem dksX0_laysRooms_0 : cX0_laysRooms.data.toList.drop 0 = dktX0_laysRooms_0 := by decide +kernel
theorem dksX0_laysRooms_1 : cX0_laysRooms.data.toList.drop 23 = dktX0_laysRooms_1 := dk_seg dksX0_laysRooms_0 23 rfl rfl
theorem dksX0_laysRooms_2 : cX0_laysRooms.data.toList.drop 45 = dktX0_laysRooms_2 := dk_seg dksX0_laysRooms_1 22 rfl rfl
theorem dksX0_laysRooms_3 : cX0_laysRooms.data.toList.drop 68 = dktX0_laysRooms_3 := dk_seg dksX0_laysRooms_2 23 rfl rfl
theorem dksX0_laysRooms_4 : cX0_laysRooms.data.toList.drop 91 = dktX0_laysRooms_4 := dk_seg dksX0_laysRooms_3 23 rfl rfl
theorem dX0_laysRooms_0 : decode cX0_laysRooms 0 = .ok (.iconst 0, 1) := dk_3 (dk_at dksX0_laysRooms_0 0 rfl rfl)
theorem dX0_laysRooms_1 : decode cX0_laysRooms 1 = .ok (.istore_n 2, 1) := dk_61 (dk_at dksX0_laysRooms_0 1 rfl rfl)
theorem dX0_laysRooms_2 : decode cX0_laysRooms 2 = .ok (.iconst (-1), 1) := dk_2 (dk_at dksX0_laysRooms_0 2 rfl rfl)
theorem dX0_laysRooms_3 : decode cX0_laysRooms 3 = .ok (.istore_n 3, 1) := dk_62 (dk_at dksX0_laysRooms_0 3 rfl rfl)
theorem dX0_laysRooms_4 : decode cX0_laysRooms 4 = .ok (.iload_n 3, 1) := dk_29 (dk_at dksX0_laysRooms_0 4 rfl rfl)
theorem dX0_laysRooms_5 : decode cX0_laysRooms 5 = .ok (.aload_n 0, 1) := dk_42 (dk_at dksX0_laysRooms_0 5 rfl rfl)
theorem dX0_laysRooms_6 : decode cX0_laysRooms 6 = .ok (.getfield 31, 3) := dk_180 0 31 (dk_at dksX0_laysRooms_0 6 rfl rfl)
theorem dX0_laysRooms_9 : decode cX0_laysRooms 9 = .ok (.invokevirtual 136, 3) := dk_182 0 136 (dk_at dksX0_laysRooms_0 9 rfl rfl)
theorem dX0_laysRooms_12 : decode cX0_laysRooms 12 = .ok (.if_icmp .ge 98, 3) := dk_162 0 98 (dk_at dksX0_laysRooms_0 12 rfl rfl)
theorem dX0_laysRooms_15 : decode cX0_laysRooms 15 = .ok (.aload_n 0, 1) := dk_42 (dk_at dksX0_laysRooms_0 15 rfl rfl)
theorem dX0_laysRooms_16 : decode cX0_laysRooms 16 = .ok (.iload_n 3, 1) := dk_29 (dk_at dksX0_laysRooms_0 16 rfl rfl)
theorem dX0_laysRooms_17 : decode cX0_laysRooms 17 = .ok (.invokevirtual 378, 3) := dk_182 1 122 (dk_at dksX0_laysRooms_0 17 rfl rfl)
theorem dX0_laysRooms_20 : decode cX0_laysRooms 20 = .ok (.ifCond .ne 6, 3) := dk_154 0 6 (dk_at dksX0_laysRooms_0 20 rfl rfl)
theorem dX0_laysRooms_23 : decode cX0_laysRooms 23 = .ok (.goto 81, 3) := dk_167 0 81 (dk_at dksX0_laysRooms_1 0 rfl rfl)
theorem dX0_laysRooms_26 : decode cX0_laysRooms 26 = .ok (.aload_n 0, 1) := dk_42 (dk_at dksX0_laysRooms_1 3 rfl rfl)
theorem dX0_laysRooms_27 : decode cX0_laysRooms 27 = .ok (.getfield 35, 3) := dk_180 0 35 (dk_at dksX0_laysRooms_1 4 rfl rfl)
theorem dX0_laysRooms_30 : decode cX0_laysRooms 30 = .ok (.istore 4, 2) := dk_54 4 (dk_at dksX0_laysRooms_1 7 rfl rfl)
theorem dX0_laysRooms_32 : decode cX0_laysRooms 32 = .ok (.aload_n 0, 1) := dk_42 (dk_at dksX0_laysRooms_1 9 rfl rfl)
theorem dX0_laysRooms_33 : decode cX0_laysRooms 33 = .ok (.iload_n 3, 1) := dk_29 (dk_at dksX0_laysRooms_1 10 rfl rfl)
theorem dX0_laysRooms_34 : decode cX0_laysRooms 34 = .ok (.putfield 35, 3) := dk_181 0 35 (dk_at dksX0_laysRooms_1 11 rfl rfl)
theorem dX0_laysRooms_37 : decode cX0_laysRooms 37 = .ok (.aload_n 0, 1) := dk_42 (dk_at dksX0_laysRooms_1 14 rfl rfl)
theorem dX0_laysRooms_38 : decode cX0_laysRooms 38 = .ok (.getfield 23, 3) := dk_180 0 23 (dk_at dksX0_laysRooms_1 15 rfl rfl)
theorem dX0_laysRooms_41 : decode cX0_laysRooms 41 = .ok (.aload_n 0, 1) := dk_42 (dk_at dksX0_laysRooms_1 18 rfl rfl)
theorem dX0_laysRooms_42 : decode cX0_laysRooms 42 = .ok (.getfield 12, 3) := dk_180 0 12 (dk_at dksX0_laysRooms_1 19 rfl rfl)
theorem dX0_laysRooms_45 : decode cX0_laysRooms 45 = .ok (.invokevirtual 160, 3) := dk_182 0 160 (dk_at dksX0_laysRooms_2 0 rfl rfl)
theorem dX0_laysRooms_48 : decode cX0_laysRooms 48 = .ok (.aload_n 0, 1) := dk_42 (dk_at dksX0_laysRooms_2 3 rfl rfl)
theorem dX0_laysRooms_49 : decode cX0_laysRooms 49 = .ok (.iload_n 1, 1) := dk_27 (dk_at dksX0_laysRooms_2 4 rfl rfl)
theorem dX0_laysRooms_50 : decode cX0_laysRooms 50 = .ok (.invokevirtual 325, 3) := dk_182 1 69 (dk_at dksX0_laysRooms_2 5 rfl rfl)
theorem dX0_laysRooms_53 : decode cX0_laysRooms 53 = .ok (.aload_n 0, 1) := dk_42 (dk_at dksX0_laysRooms_2 8 rfl rfl)
theorem dX0_laysRooms_54 : decode cX0_laysRooms 54 = .ok (.iload 4, 2) := dk_21 4 (dk_at dksX0_laysRooms_2 9 rfl rfl)
theorem dX0_laysRooms_56 : decode cX0_laysRooms 56 = .ok (.putfield 35, 3) := dk_181 0 35 (dk_at dksX0_laysRooms_2 11 rfl rfl)
theorem dX0_laysRooms_59 : decode cX0_laysRooms 59 = .ok (.iconst 0, 1) := dk_3 (dk_at dksX0_laysRooms_2 14 rfl rfl)
theorem dX0_laysRooms_60 : decode cX0_laysRooms 60 = .ok (.istore 5, 2) := dk_54 5 (dk_at dksX0_laysRooms_2 15 rfl rfl)
theorem dX0_laysRooms_62 : decode cX0_laysRooms 62 = .ok (.iload 5, 2) := dk_21 5 (dk_at dksX0_laysRooms_2 17 rfl rfl)
theorem dX0_laysRooms_64 : decode cX0_laysRooms 64 = .ok (.aload_n 0, 1) := dk_42 (dk_at dksX0_laysRooms_2 19 rfl rfl)
theorem dX0_laysRooms_65 : decode cX0_laysRooms 65 = .ok (.getfield 12, 3) := dk_180 0 12 (dk_at dksX0_laysRooms_2 20 rfl rfl)
theorem dX0_laysRooms_68 : decode cX0_laysRooms 68 = .ok (.invokevirtual 125, 3) := dk_182 0 125 (dk_at dksX0_laysRooms_3 0 rfl rfl)
theorem dX0_laysRooms_71 : decode cX0_laysRooms 71 = .ok (.if_icmp .ge 30, 3) := dk_162 0 30 (dk_at dksX0_laysRooms_3 3 rfl rfl)
theorem dX0_laysRooms_74 : decode cX0_laysRooms 74 = .ok (.aload_n 0, 1) := dk_42 (dk_at dksX0_laysRooms_3 6 rfl rfl)
theorem dX0_laysRooms_75 : decode cX0_laysRooms 75 = .ok (.getfield 114, 3) := dk_180 0 114 (dk_at dksX0_laysRooms_3 7 rfl rfl)
theorem dX0_laysRooms_78 : decode cX0_laysRooms 78 = .ok (.iconst 4, 1) := dk_7 (dk_at dksX0_laysRooms_3 10 rfl rfl)
theorem dX0_laysRooms_79 : decode cX0_laysRooms 79 = .ok (.iload_n 2, 1) := dk_28 (dk_at dksX0_laysRooms_3 11 rfl rfl)
theorem dX0_laysRooms_80 : decode cX0_laysRooms 80 = .ok (.imul, 1) := dk_104 (dk_at dksX0_laysRooms_3 12 rfl rfl)
theorem dX0_laysRooms_81 : decode cX0_laysRooms 81 = .ok (.iload 5, 2) := dk_21 5 (dk_at dksX0_laysRooms_3 13 rfl rfl)
theorem dX0_laysRooms_83 : decode cX0_laysRooms 83 = .ok (.iadd, 1) := dk_96 (dk_at dksX0_laysRooms_3 15 rfl rfl)
theorem dX0_laysRooms_84 : decode cX0_laysRooms 84 = .ok (.aload_n 0, 1) := dk_42 (dk_at dksX0_laysRooms_3 16 rfl rfl)
theorem dX0_laysRooms_85 : decode cX0_laysRooms 85 = .ok (.getfield 23, 3) := dk_180 0 23 (dk_at dksX0_laysRooms_3 17 rfl rfl)
theorem dX0_laysRooms_88 : decode cX0_laysRooms 88 = .ok (.getfield 202, 3) := dk_180 0 202 (dk_at dksX0_laysRooms_3 20 rfl rfl)
theorem dX0_laysRooms_91 : decode cX0_laysRooms 91 = .ok (.iload 5, 2) := dk_21 5 (dk_at dksX0_laysRooms_4 0 rfl rfl)
theorem dX0_laysRooms_93 : decode cX0_laysRooms 93 = .ok (.iaload, 1) := dk_46 (dk_at dksX0_laysRooms_4 2 rfl rfl)
theorem dX0_laysRooms_94 : decode cX0_laysRooms 94 = .ok (.iastore, 1) := dk_79 (dk_at dksX0_laysRooms_4 3 rfl rfl)
theorem dX0_laysRooms_95 : decode cX0_laysRooms 95 = .ok (.iinc 5 1, 3) := dk_132 5 1 (dk_at dksX0_laysRooms_4 4 rfl rfl)
theorem dX0_laysRooms_98 : decode cX0_laysRooms 98 = .ok (.goto (-36), 3) := dk_167 255 220 (dk_at dksX0_laysRooms_4 7 rfl rfl)
theorem dX0_laysRooms_101 : decode cX0_laysRooms 101 = .ok (.iinc 2 1, 3) := dk_132 2 1 (dk_at dksX0_laysRooms_4 10 rfl rfl)
theorem dX0_laysRooms_104 : decode cX0_laysRooms 104 = .ok (.iinc 3 1, 3) := dk_132 3 1 (dk_at dksX0_laysRooms_4 13 rfl rfl)
theorem dX0_laysRooms_107 : decode cX0_laysRooms 107 = .ok (.goto (-103), 3) := dk_167 255 153 (dk_at dksX0_laysRooms_4 16 rfl rfl)
theorem dX0_laysRooms_110 : decode cX0_laysRooms 110 = .ok (.iload_n 2, 1) := dk_28 (dk_at dksX0_laysRooms_4 19 rfl rfl)
theorem dX0_laysRooms_111 : decode cX0_laysRooms 111 = .ok (.ireturn, 1) := dk_172 (dk_at dksX0_laysRooms_4 20 rfl rfl)
abbrev cX0_mostAlike : ByteArray := prog_1_method_65_code
def yX0_mostAlike : MethodName := ⟨RX0, "mostAlike", "(II)I"⟩
def dkwX0_mostAlike_3 : List UInt8 := [184, 1, 125, 62, 132, 4, 1, 167, 255, 184, 29, 172]
abbrev dktX0_mostAlike_3 : List UInt8 := dkwX0_mostAlike_3 ++ []
def dkwX0_mostAlike_2 : List UInt8 := [160, 0, 7, 4, 167, 0, 4, 3, 184, 1, 10, 96, 54, 5, 132, 6, 1, 167, 255, 209, 29, 21, 5]
abbrev dktX0_mostAlike_2 : List UInt8 := dkwX0_mostAlike_2 ++ dktX0_mostAlike_3
def dkwX0_mostAlike_1 : List UInt8 := [21, 5, 42, 180, 0, 114, 7, 21, 6, 104, 27, 96, 46, 42, 180, 0, 114, 7, 21, 4, 104, 27, 96, 46]
abbrev dktX0_mostAlike_1 : List UInt8 := dkwX0_mostAlike_1 ++ dktX0_mostAlike_2
def dkwX0_mostAlike_0 : List UInt8 := [3, 62, 3, 54, 4, 21, 4, 28, 162, 0, 72, 3, 54, 5, 3, 54, 6, 21, 6, 28, 162, 0, 47]
abbrev dktX0_mostAlike_0 : List UInt8 := dkwX0_mostAlike_0 ++ dktX0_mostAlike_1
theorem dksX0_mostAlike_0 : cX0_mostAlike.data.toList.drop 0 = dktX0_mostAlike_0 := by decide +kernel
theorem dksX0_mostAlike_1 : cX0_mostAlike.data.toList.drop 23 = dktX0_mostAlike_1 := dk_seg dksX0_mostAlike_0 23 rfl rfl
theorem dksX0_mostAlike_2 : cX0_mostAlike.data.toList.drop 47 = dktX0_mostAlike_2 := dk_seg dksX0_mostAlike_1 24 rfl rfl
theorem dksX0_mostAlike_3 : cX0_mostAlike.data.toList.drop 70 = dktX0_mostAlike_3 := dk_seg dksX0_mostAlike_2 23 rfl rfl
theorem dX0_mostAlike_0 : decode cX0_mostAlike 0 = .ok (.iconst 0, 1) := dk_3 (dk_at dksX0_mostAlike_0 0 rfl rfl)
theorem dX0_mostAlike_1 : decode cX0_mostAlike 1 = .ok (.istore_n 3, 1) := dk_62 (dk_at dksX0_mostAlike_0 1 rfl rfl)
theorem dX0_mostAlike_2 : decode cX0_mostAlike 2 = .ok (.iconst 0, 1) := dk_3 (dk_at dksX0_mostAlike_0 2 rfl rfl)
theorem dX0_mostAlike_3 : decode cX0_mostAlike 3 = .ok (.istore 4, 2) := dk_54 4 (dk_at dksX0_mostAlike_0 3 rfl rfl)
theorem dX0_mostAlike_5 : decode cX0_mostAlike 5 = .ok (.iload 4, 2) := dk_21 4 (dk_at dksX0_mostAlike_0 5 rfl rfl)
theorem dX0_mostAlike_7 : decode cX0_mostAlike 7 = .ok (.iload_n 2, 1) := dk_28 (dk_at dksX0_mostAlike_0 7 rfl rfl)
theorem dX0_mostAlike_8 : decode cX0_mostAlike 8 = .ok (.if_icmp .ge 72, 3) := dk_162 0 72 (dk_at dksX0_mostAlike_0 8 rfl rfl)
theorem dX0_mostAlike_11 : decode cX0_mostAlike 11 = .ok (.iconst 0, 1) := dk_3 (dk_at dksX0_mostAlike_0 11 rfl rfl)
theorem dX0_mostAlike_12 : decode cX0_mostAlike 12 = .ok (.istore 5, 2) := dk_54 5 (dk_at dksX0_mostAlike_0 12 rfl rfl)
theorem dX0_mostAlike_14 : decode cX0_mostAlike 14 = .ok (.iconst 0, 1) := dk_3 (dk_at dksX0_mostAlike_0 14 rfl rfl)
theorem dX0_mostAlike_15 : decode cX0_mostAlike 15 = .ok (.istore 6, 2) := dk_54 6 (dk_at dksX0_mostAlike_0 15 rfl rfl)
theorem dX0_mostAlike_17 : decode cX0_mostAlike 17 = .ok (.iload 6, 2) := dk_21 6 (dk_at dksX0_mostAlike_0 17 rfl rfl)
theorem dX0_mostAlike_19 : decode cX0_mostAlike 19 = .ok (.iload_n 2, 1) := dk_28 (dk_at dksX0_mostAlike_0 19 rfl rfl)
theorem dX0_mostAlike_20 : decode cX0_mostAlike 20 = .ok (.if_icmp .ge 47, 3) := dk_162 0 47 (dk_at dksX0_mostAlike_0 20 rfl rfl)
theorem dX0_mostAlike_23 : decode cX0_mostAlike 23 = .ok (.iload 5, 2) := dk_21 5 (dk_at dksX0_mostAlike_1 0 rfl rfl)
theorem dX0_mostAlike_25 : decode cX0_mostAlike 25 = .ok (.aload_n 0, 1) := dk_42 (dk_at dksX0_mostAlike_1 2 rfl rfl)
theorem dX0_mostAlike_26 : decode cX0_mostAlike 26 = .ok (.getfield 114, 3) := dk_180 0 114 (dk_at dksX0_mostAlike_1 3 rfl rfl)
theorem dX0_mostAlike_29 : decode cX0_mostAlike 29 = .ok (.iconst 4, 1) := dk_7 (dk_at dksX0_mostAlike_1 6 rfl rfl)
theorem dX0_mostAlike_30 : decode cX0_mostAlike 30 = .ok (.iload 6, 2) := dk_21 6 (dk_at dksX0_mostAlike_1 7 rfl rfl)
theorem dX0_mostAlike_32 : decode cX0_mostAlike 32 = .ok (.imul, 1) := dk_104 (dk_at dksX0_mostAlike_1 9 rfl rfl)
theorem dX0_mostAlike_33 : decode cX0_mostAlike 33 = .ok (.iload_n 1, 1) := dk_27 (dk_at dksX0_mostAlike_1 10 rfl rfl)
theorem dX0_mostAlike_34 : decode cX0_mostAlike 34 = .ok (.iadd, 1) := dk_96 (dk_at dksX0_mostAlike_1 11 rfl rfl)
theorem dX0_mostAlike_35 : decode cX0_mostAlike 35 = .ok (.iaload, 1) := dk_46 (dk_at dksX0_mostAlike_1 12 rfl rfl)
theorem dX0_mostAlike_36 : decode cX0_mostAlike 36 = .ok (.aload_n 0, 1) := dk_42 (dk_at dksX0_mostAlike_1 13 rfl rfl)
theorem dX0_mostAlike_37 : decode cX0_mostAlike 37 = .ok (.getfield 114, 3) := dk_180 0 114 (dk_at dksX0_mostAlike_1 14 rfl rfl)
theorem dX0_mostAlike_40 : decode cX0_mostAlike 40 = .ok (.iconst 4, 1) := dk_7 (dk_at dksX0_mostAlike_1 17 rfl rfl)
theorem dX0_mostAlike_41 : decode cX0_mostAlike 41 = .ok (.iload 4, 2) := dk_21 4 (dk_at dksX0_mostAlike_1 18 rfl rfl)
theorem dX0_mostAlike_43 : decode cX0_mostAlike 43 = .ok (.imul, 1) := dk_104 (dk_at dksX0_mostAlike_1 20 rfl rfl)
theorem dX0_mostAlike_44 : decode cX0_mostAlike 44 = .ok (.iload_n 1, 1) := dk_27 (dk_at dksX0_mostAlike_1 21 rfl rfl)
theorem dX0_mostAlike_45 : decode cX0_mostAlike 45 = .ok (.iadd, 1) := dk_96 (dk_at dksX0_mostAlike_1 22 rfl rfl)
theorem dX0_mostAlike_46 : decode cX0_mostAlike 46 = .ok (.iaload, 1) := dk_46 (dk_at dksX0_mostAlike_1 23 rfl rfl)
theorem dX0_mostAlike_47 : decode cX0_mostAlike 47 = .ok (.if_icmp .ne 7, 3) := dk_160 0 7 (dk_at dksX0_mostAlike_2 0 rfl rfl)
theorem dX0_mostAlike_50 : decode cX0_mostAlike 50 = .ok (.iconst 1, 1) := dk_4 (dk_at dksX0_mostAlike_2 3 rfl rfl)
theorem dX0_mostAlike_51 : decode cX0_mostAlike 51 = .ok (.goto 4, 3) := dk_167 0 4 (dk_at dksX0_mostAlike_2 4 rfl rfl)
theorem dX0_mostAlike_54 : decode cX0_mostAlike 54 = .ok (.iconst 0, 1) := dk_3 (dk_at dksX0_mostAlike_2 7 rfl rfl)
theorem dX0_mostAlike_55 : decode cX0_mostAlike 55 = .ok (.invokestatic 266, 3) := dk_184 1 10 (dk_at dksX0_mostAlike_2 8 rfl rfl)
theorem dX0_mostAlike_58 : decode cX0_mostAlike 58 = .ok (.iadd, 1) := dk_96 (dk_at dksX0_mostAlike_2 11 rfl rfl)
theorem dX0_mostAlike_59 : decode cX0_mostAlike 59 = .ok (.istore 5, 2) := dk_54 5 (dk_at dksX0_mostAlike_2 12 rfl rfl)
theorem dX0_mostAlike_61 : decode cX0_mostAlike 61 = .ok (.iinc 6 1, 3) := dk_132 6 1 (dk_at dksX0_mostAlike_2 14 rfl rfl)
theorem dX0_mostAlike_64 : decode cX0_mostAlike 64 = .ok (.goto (-47), 3) := dk_167 255 209 (dk_at dksX0_mostAlike_2 17 rfl rfl)
theorem dX0_mostAlike_67 : decode cX0_mostAlike 67 = .ok (.iload_n 3, 1) := dk_29 (dk_at dksX0_mostAlike_2 20 rfl rfl)
theorem dX0_mostAlike_68 : decode cX0_mostAlike 68 = .ok (.iload 5, 2) := dk_21 5 (dk_at dksX0_mostAlike_2 21 rfl rfl)
theorem dX0_mostAlike_70 : decode cX0_mostAlike 70 = .ok (.invokestatic 381, 3) := dk_184 1 125 (dk_at dksX0_mostAlike_3 0 rfl rfl)
theorem dX0_mostAlike_73 : decode cX0_mostAlike 73 = .ok (.istore_n 3, 1) := dk_62 (dk_at dksX0_mostAlike_3 3 rfl rfl)
theorem dX0_mostAlike_74 : decode cX0_mostAlike 74 = .ok (.iinc 4 1, 3) := dk_132 4 1 (dk_at dksX0_mostAlike_3 4 rfl rfl)
theorem dX0_mostAlike_77 : decode cX0_mostAlike 77 = .ok (.goto (-72), 3) := dk_167 255 184 (dk_at dksX0_mostAlike_3 7 rfl rfl)
theorem dX0_mostAlike_80 : decode cX0_mostAlike 80 = .ok (.iload_n 3, 1) := dk_29 (dk_at dksX0_mostAlike_3 10 rfl rfl)
theorem dX0_mostAlike_81 : decode cX0_mostAlike 81 = .ok (.ireturn, 1) := dk_172 (dk_at dksX0_mostAlike_3 11 rfl rfl)
abbrev cX0_seed : ByteArray := prog_1_method_67_code
def yX0_seed : MethodName := ⟨RX0, "seed", "(I)I"⟩
def dkwX0_seed_0 : List UInt8 := [27, 156, 0, 5, 2, 172, 42, 180, 1, 134, 61, 42, 27, 181, 1, 134, 28, 172]
abbrev dktX0_seed_0 : List UInt8 := dkwX0_seed_0 ++ []
theorem dksX0_seed_0 : cX0_seed.data.toList.drop 0 = dktX0_seed_0 := by decide +kernel
theorem dX0_seed_0 : decode cX0_seed 0 = .ok (.iload_n 1, 1) := dk_27 (dk_at dksX0_seed_0 0 rfl rfl)
theorem dX0_seed_1 : decode cX0_seed 1 = .ok (.ifCond .ge 5, 3) := dk_156 0 5 (dk_at dksX0_seed_0 1 rfl rfl)
theorem dX0_seed_4 : decode cX0_seed 4 = .ok (.iconst (-1), 1) := dk_2 (dk_at dksX0_seed_0 4 rfl rfl)
theorem dX0_seed_5 : decode cX0_seed 5 = .ok (.ireturn, 1) := dk_172 (dk_at dksX0_seed_0 5 rfl rfl)
theorem dX0_seed_6 : decode cX0_seed 6 = .ok (.aload_n 0, 1) := dk_42 (dk_at dksX0_seed_0 6 rfl rfl)
theorem dX0_seed_7 : decode cX0_seed 7 = .ok (.getfield 390, 3) := dk_180 1 134 (dk_at dksX0_seed_0 7 rfl rfl)
theorem dX0_seed_10 : decode cX0_seed 10 = .ok (.istore_n 2, 1) := dk_61 (dk_at dksX0_seed_0 10 rfl rfl)
theorem dX0_seed_11 : decode cX0_seed 11 = .ok (.aload_n 0, 1) := dk_42 (dk_at dksX0_seed_0 11 rfl rfl)
theorem dX0_seed_12 : decode cX0_seed 12 = .ok (.iload_n 1, 1) := dk_27 (dk_at dksX0_seed_0 12 rfl rfl)
theorem dX0_seed_13 : decode cX0_seed 13 = .ok (.putfield 390, 3) := dk_181 1 134 (dk_at dksX0_seed_0 13 rfl rfl)
theorem dX0_seed_16 : decode cX0_seed 16 = .ok (.iload_n 2, 1) := dk_28 (dk_at dksX0_seed_0 16 rfl rfl)
theorem dX0_seed_17 : decode cX0_seed 17 = .ok (.ireturn, 1) := dk_172 (dk_at dksX0_seed_0 17 rfl rfl)
abbrev cX0_days : ByteArray := prog_1_method_70_code
def yX0_days : MethodName := ⟨RX0, "days", "(III)I"⟩
def dkwX0_days_7 : List UInt8 := [21, 5, 167, 0, 5, 21, 6, 172]
abbrev dktX0_days_7 : List UInt8 := dkwX0_days_7 ++ []
def dkwX0_days_6 : List UInt8 := [182, 1, 155, 100, 96, 54, 6, 132, 7, 1, 167, 255, 168, 42, 21, 4, 181, 1, 134, 29, 154, 0, 8]
abbrev dktX0_days_6 : List UInt8 := dkwX0_days_6 ++ dktX0_days_7
def dkwX0_days_5 : List UInt8 := [180, 0, 19, 182, 1, 152, 100, 96, 54, 5, 21, 6, 42, 180, 0, 23, 182, 1, 155, 42, 180, 0, 19]
abbrev dktX0_days_5 : List UInt8 := dkwX0_days_5 ++ dktX0_days_6
def dkwX0_days_4 : List UInt8 := [180, 0, 23, 182, 1, 59, 87, 132, 8, 1, 167, 255, 234, 21, 5, 42, 180, 0, 23, 182, 1, 152, 42]
abbrev dktX0_days_4 : List UInt8 := dkwX0_days_4 ++ dktX0_days_5
def dkwX0_days_3 : List UInt8 := [42, 180, 0, 19, 182, 1, 53, 3, 54, 8, 21, 8, 28, 162, 0, 22, 42, 182, 1, 149, 42, 42]
abbrev dktX0_days_3 : List UInt8 := dkwX0_days_3 ++ dktX0_days_4
def dkwX0_days_2 : List UInt8 := [180, 1, 134, 54, 4, 3, 54, 5, 3, 54, 6, 3, 54, 7, 21, 7, 27, 162, 0, 88, 42, 180, 0, 23]
abbrev dktX0_days_2 : List UInt8 := dkwX0_days_2 ++ dktX0_days_3
def dkwX0_days_1 : List UInt8 := [20, 1, 117, 184, 0, 129, 153, 0, 13, 29, 133, 9, 10, 184, 0, 129, 154, 0, 5, 2, 172, 42]
abbrev dktX0_days_1 : List UInt8 := dkwX0_days_1 ++ dktX0_days_2
def dkwX0_days_0 : List UInt8 := [42, 182, 0, 139, 153, 0, 37, 27, 133, 10, 20, 1, 147, 184, 0, 129, 153, 0, 25, 28, 133, 10]
abbrev dktX0_days_0 : List UInt8 := dkwX0_days_0 ++ dktX0_days_1
theorem dksX0_days_0 : cX0_days.data.toList.drop 0 = dktX0_days_0 := by decide +kernel
theorem dksX0_days_1 : cX0_days.data.toList.drop 22 = dktX0_days_1 := dk_seg dksX0_days_0 22 rfl rfl
theorem dksX0_days_2 : cX0_days.data.toList.drop 44 = dktX0_days_2 := dk_seg dksX0_days_1 22 rfl rfl
theorem dksX0_days_3 : cX0_days.data.toList.drop 68 = dktX0_days_3 := dk_seg dksX0_days_2 24 rfl rfl
theorem dksX0_days_4 : cX0_days.data.toList.drop 90 = dktX0_days_4 := dk_seg dksX0_days_3 22 rfl rfl
theorem dksX0_days_5 : cX0_days.data.toList.drop 113 = dktX0_days_5 := dk_seg dksX0_days_4 23 rfl rfl
theorem dksX0_days_6 : cX0_days.data.toList.drop 136 = dktX0_days_6 := dk_seg dksX0_days_5 23 rfl rfl
theorem dksX0_days_7 : cX0_days.data.toList.drop 159 = dktX0_days_7 := dk_seg dksX0_days_6 23 rfl rfl
theorem dX0_days_0 : decode cX0_days 0 = .ok (.aload_n 0, 1) := dk_42 (dk_at dksX0_days_0 0 rfl rfl)
theorem dX0_days_1 : decode cX0_days 1 = .ok (.invokevirtual 139, 3) := dk_182 0 139 (dk_at dksX0_days_0 1 rfl rfl)
theorem dX0_days_4 : decode cX0_days 4 = .ok (.ifCond .eq 37, 3) := dk_153 0 37 (dk_at dksX0_days_0 4 rfl rfl)
theorem dX0_days_7 : decode cX0_days 7 = .ok (.iload_n 1, 1) := dk_27 (dk_at dksX0_days_0 7 rfl rfl)
theorem dX0_days_8 : decode cX0_days 8 = .ok (.i2l, 1) := dk_133 (dk_at dksX0_days_0 8 rfl rfl)
theorem dX0_days_9 : decode cX0_days 9 = .ok (.lconst 1, 1) := dk_10 (dk_at dksX0_days_0 9 rfl rfl)
theorem dX0_days_10 : decode cX0_days 10 = .ok (.ldc2_w 403, 3) := dk_20 1 147 (dk_at dksX0_days_0 10 rfl rfl)
theorem dX0_days_13 : decode cX0_days 13 = .ok (.invokestatic 129, 3) := dk_184 0 129 (dk_at dksX0_days_0 13 rfl rfl)
theorem dX0_days_16 : decode cX0_days 16 = .ok (.ifCond .eq 25, 3) := dk_153 0 25 (dk_at dksX0_days_0 16 rfl rfl)
theorem dX0_days_19 : decode cX0_days 19 = .ok (.iload_n 2, 1) := dk_28 (dk_at dksX0_days_0 19 rfl rfl)
theorem dX0_days_20 : decode cX0_days 20 = .ok (.i2l, 1) := dk_133 (dk_at dksX0_days_0 20 rfl rfl)
theorem dX0_days_21 : decode cX0_days 21 = .ok (.lconst 1, 1) := dk_10 (dk_at dksX0_days_0 21 rfl rfl)
theorem dX0_days_22 : decode cX0_days 22 = .ok (.ldc2_w 373, 3) := dk_20 1 117 (dk_at dksX0_days_1 0 rfl rfl)
theorem dX0_days_25 : decode cX0_days 25 = .ok (.invokestatic 129, 3) := dk_184 0 129 (dk_at dksX0_days_1 3 rfl rfl)
theorem dX0_days_28 : decode cX0_days 28 = .ok (.ifCond .eq 13, 3) := dk_153 0 13 (dk_at dksX0_days_1 6 rfl rfl)
theorem dX0_days_31 : decode cX0_days 31 = .ok (.iload_n 3, 1) := dk_29 (dk_at dksX0_days_1 9 rfl rfl)
theorem dX0_days_32 : decode cX0_days 32 = .ok (.i2l, 1) := dk_133 (dk_at dksX0_days_1 10 rfl rfl)
theorem dX0_days_33 : decode cX0_days 33 = .ok (.lconst 0, 1) := dk_9 (dk_at dksX0_days_1 11 rfl rfl)
theorem dX0_days_34 : decode cX0_days 34 = .ok (.lconst 1, 1) := dk_10 (dk_at dksX0_days_1 12 rfl rfl)
theorem dX0_days_35 : decode cX0_days 35 = .ok (.invokestatic 129, 3) := dk_184 0 129 (dk_at dksX0_days_1 13 rfl rfl)
theorem dX0_days_38 : decode cX0_days 38 = .ok (.ifCond .ne 5, 3) := dk_154 0 5 (dk_at dksX0_days_1 16 rfl rfl)
theorem dX0_days_41 : decode cX0_days 41 = .ok (.iconst (-1), 1) := dk_2 (dk_at dksX0_days_1 19 rfl rfl)
theorem dX0_days_42 : decode cX0_days 42 = .ok (.ireturn, 1) := dk_172 (dk_at dksX0_days_1 20 rfl rfl)
theorem dX0_days_43 : decode cX0_days 43 = .ok (.aload_n 0, 1) := dk_42 (dk_at dksX0_days_1 21 rfl rfl)
theorem dX0_days_44 : decode cX0_days 44 = .ok (.getfield 390, 3) := dk_180 1 134 (dk_at dksX0_days_2 0 rfl rfl)
theorem dX0_days_47 : decode cX0_days 47 = .ok (.istore 4, 2) := dk_54 4 (dk_at dksX0_days_2 3 rfl rfl)
theorem dX0_days_49 : decode cX0_days 49 = .ok (.iconst 0, 1) := dk_3 (dk_at dksX0_days_2 5 rfl rfl)
theorem dX0_days_50 : decode cX0_days 50 = .ok (.istore 5, 2) := dk_54 5 (dk_at dksX0_days_2 6 rfl rfl)
theorem dX0_days_52 : decode cX0_days 52 = .ok (.iconst 0, 1) := dk_3 (dk_at dksX0_days_2 8 rfl rfl)
theorem dX0_days_53 : decode cX0_days 53 = .ok (.istore 6, 2) := dk_54 6 (dk_at dksX0_days_2 9 rfl rfl)
theorem dX0_days_55 : decode cX0_days 55 = .ok (.iconst 0, 1) := dk_3 (dk_at dksX0_days_2 11 rfl rfl)
theorem dX0_days_56 : decode cX0_days 56 = .ok (.istore 7, 2) := dk_54 7 (dk_at dksX0_days_2 12 rfl rfl)
theorem dX0_days_58 : decode cX0_days 58 = .ok (.iload 7, 2) := dk_21 7 (dk_at dksX0_days_2 14 rfl rfl)
theorem dX0_days_60 : decode cX0_days 60 = .ok (.iload_n 1, 1) := dk_27 (dk_at dksX0_days_2 16 rfl rfl)
theorem dX0_days_61 : decode cX0_days 61 = .ok (.if_icmp .ge 88, 3) := dk_162 0 88 (dk_at dksX0_days_2 17 rfl rfl)
theorem dX0_days_64 : decode cX0_days 64 = .ok (.aload_n 0, 1) := dk_42 (dk_at dksX0_days_2 20 rfl rfl)
theorem dX0_days_65 : decode cX0_days 65 = .ok (.getfield 23, 3) := dk_180 0 23 (dk_at dksX0_days_2 21 rfl rfl)
theorem dX0_days_68 : decode cX0_days 68 = .ok (.aload_n 0, 1) := dk_42 (dk_at dksX0_days_3 0 rfl rfl)
theorem dX0_days_69 : decode cX0_days 69 = .ok (.getfield 19, 3) := dk_180 0 19 (dk_at dksX0_days_3 1 rfl rfl)
theorem dX0_days_72 : decode cX0_days 72 = .ok (.invokevirtual 309, 3) := dk_182 1 53 (dk_at dksX0_days_3 4 rfl rfl)
theorem dX0_days_75 : decode cX0_days 75 = .ok (.iconst 0, 1) := dk_3 (dk_at dksX0_days_3 7 rfl rfl)
theorem dX0_days_76 : decode cX0_days 76 = .ok (.istore 8, 2) := dk_54 8 (dk_at dksX0_days_3 8 rfl rfl)
theorem dX0_days_78 : decode cX0_days 78 = .ok (.iload 8, 2) := dk_21 8 (dk_at dksX0_days_3 10 rfl rfl)
theorem dX0_days_80 : decode cX0_days 80 = .ok (.iload_n 2, 1) := dk_28 (dk_at dksX0_days_3 12 rfl rfl)
theorem dX0_days_81 : decode cX0_days 81 = .ok (.if_icmp .ge 22, 3) := dk_162 0 22 (dk_at dksX0_days_3 13 rfl rfl)
theorem dX0_days_84 : decode cX0_days 84 = .ok (.aload_n 0, 1) := dk_42 (dk_at dksX0_days_3 16 rfl rfl)
theorem dX0_days_85 : decode cX0_days 85 = .ok (.invokevirtual 405, 3) := dk_182 1 149 (dk_at dksX0_days_3 17 rfl rfl)
theorem dX0_days_88 : decode cX0_days 88 = .ok (.aload_n 0, 1) := dk_42 (dk_at dksX0_days_3 20 rfl rfl)
theorem dX0_days_89 : decode cX0_days 89 = .ok (.aload_n 0, 1) := dk_42 (dk_at dksX0_days_3 21 rfl rfl)
theorem dX0_days_90 : decode cX0_days 90 = .ok (.getfield 23, 3) := dk_180 0 23 (dk_at dksX0_days_4 0 rfl rfl)
theorem dX0_days_93 : decode cX0_days 93 = .ok (.invokevirtual 315, 3) := dk_182 1 59 (dk_at dksX0_days_4 3 rfl rfl)
theorem dX0_days_96 : decode cX0_days 96 = .ok (.pop, 1) := dk_87 (dk_at dksX0_days_4 6 rfl rfl)
theorem dX0_days_97 : decode cX0_days 97 = .ok (.iinc 8 1, 3) := dk_132 8 1 (dk_at dksX0_days_4 7 rfl rfl)
theorem dX0_days_100 : decode cX0_days 100 = .ok (.goto (-22), 3) := dk_167 255 234 (dk_at dksX0_days_4 10 rfl rfl)
theorem dX0_days_103 : decode cX0_days 103 = .ok (.iload 5, 2) := dk_21 5 (dk_at dksX0_days_4 13 rfl rfl)
theorem dX0_days_105 : decode cX0_days 105 = .ok (.aload_n 0, 1) := dk_42 (dk_at dksX0_days_4 15 rfl rfl)
theorem dX0_days_106 : decode cX0_days 106 = .ok (.getfield 23, 3) := dk_180 0 23 (dk_at dksX0_days_4 16 rfl rfl)
theorem dX0_days_109 : decode cX0_days 109 = .ok (.invokevirtual 408, 3) := dk_182 1 152 (dk_at dksX0_days_4 19 rfl rfl)
theorem dX0_days_112 : decode cX0_days 112 = .ok (.aload_n 0, 1) := dk_42 (dk_at dksX0_days_4 22 rfl rfl)
theorem dX0_days_113 : decode cX0_days 113 = .ok (.getfield 19, 3) := dk_180 0 19 (dk_at dksX0_days_5 0 rfl rfl)
theorem dX0_days_116 : decode cX0_days 116 = .ok (.invokevirtual 408, 3) := dk_182 1 152 (dk_at dksX0_days_5 3 rfl rfl)
theorem dX0_days_119 : decode cX0_days 119 = .ok (.isub, 1) := dk_100 (dk_at dksX0_days_5 6 rfl rfl)
theorem dX0_days_120 : decode cX0_days 120 = .ok (.iadd, 1) := dk_96 (dk_at dksX0_days_5 7 rfl rfl)
theorem dX0_days_121 : decode cX0_days 121 = .ok (.istore 5, 2) := dk_54 5 (dk_at dksX0_days_5 8 rfl rfl)
theorem dX0_days_123 : decode cX0_days 123 = .ok (.iload 6, 2) := dk_21 6 (dk_at dksX0_days_5 10 rfl rfl)
theorem dX0_days_125 : decode cX0_days 125 = .ok (.aload_n 0, 1) := dk_42 (dk_at dksX0_days_5 12 rfl rfl)
theorem dX0_days_126 : decode cX0_days 126 = .ok (.getfield 23, 3) := dk_180 0 23 (dk_at dksX0_days_5 13 rfl rfl)
theorem dX0_days_129 : decode cX0_days 129 = .ok (.invokevirtual 411, 3) := dk_182 1 155 (dk_at dksX0_days_5 16 rfl rfl)
theorem dX0_days_132 : decode cX0_days 132 = .ok (.aload_n 0, 1) := dk_42 (dk_at dksX0_days_5 19 rfl rfl)
theorem dX0_days_133 : decode cX0_days 133 = .ok (.getfield 19, 3) := dk_180 0 19 (dk_at dksX0_days_5 20 rfl rfl)
theorem dX0_days_136 : decode cX0_days 136 = .ok (.invokevirtual 411, 3) := dk_182 1 155 (dk_at dksX0_days_6 0 rfl rfl)
theorem dX0_days_139 : decode cX0_days 139 = .ok (.isub, 1) := dk_100 (dk_at dksX0_days_6 3 rfl rfl)
theorem dX0_days_140 : decode cX0_days 140 = .ok (.iadd, 1) := dk_96 (dk_at dksX0_days_6 4 rfl rfl)
theorem dX0_days_141 : decode cX0_days 141 = .ok (.istore 6, 2) := dk_54 6 (dk_at dksX0_days_6 5 rfl rfl)
theorem dX0_days_143 : decode cX0_days 143 = .ok (.iinc 7 1, 3) := dk_132 7 1 (dk_at dksX0_days_6 7 rfl rfl)
theorem dX0_days_146 : decode cX0_days 146 = .ok (.goto (-88), 3) := dk_167 255 168 (dk_at dksX0_days_6 10 rfl rfl)
theorem dX0_days_149 : decode cX0_days 149 = .ok (.aload_n 0, 1) := dk_42 (dk_at dksX0_days_6 13 rfl rfl)
theorem dX0_days_150 : decode cX0_days 150 = .ok (.iload 4, 2) := dk_21 4 (dk_at dksX0_days_6 14 rfl rfl)
theorem dX0_days_152 : decode cX0_days 152 = .ok (.putfield 390, 3) := dk_181 1 134 (dk_at dksX0_days_6 16 rfl rfl)
theorem dX0_days_155 : decode cX0_days 155 = .ok (.iload_n 3, 1) := dk_29 (dk_at dksX0_days_6 19 rfl rfl)
theorem dX0_days_156 : decode cX0_days 156 = .ok (.ifCond .ne 8, 3) := dk_154 0 8 (dk_at dksX0_days_6 20 rfl rfl)
theorem dX0_days_159 : decode cX0_days 159 = .ok (.iload 5, 2) := dk_21 5 (dk_at dksX0_days_7 0 rfl rfl)
theorem dX0_days_161 : decode cX0_days 161 = .ok (.goto 5, 3) := dk_167 0 5 (dk_at dksX0_days_7 2 rfl rfl)
theorem dX0_days_164 : decode cX0_days 164 = .ok (.iload 6, 2) := dk_21 6 (dk_at dksX0_days_7 5 rfl rfl)
theorem dX0_days_166 : decode cX0_days 166 = .ok (.ireturn, 1) := dk_172 (dk_at dksX0_days_7 7 rfl rfl)
abbrev cX0_drawsAim : ByteArray := prog_1_method_69_code
def yX0_drawsAim : MethodName := ⟨RX0, "drawsAim", "()V"⟩
def dkwX0_drawsAim_1 : List UInt8 := [180, 0, 23, 180, 0, 192, 27, 42, 42, 180, 0, 12, 180, 0, 123, 182, 1, 144, 79, 177]
abbrev dktX0_drawsAim_1 : List UInt8 := dkwX0_drawsAim_1 ++ []
def dkwX0_drawsAim_0 : List UInt8 := [42, 180, 0, 12, 182, 0, 125, 154, 0, 4, 177, 42, 42, 180, 0, 12, 182, 0, 125, 182, 1, 144, 60, 42]
abbrev dktX0_drawsAim_0 : List UInt8 := dkwX0_drawsAim_0 ++ dktX0_drawsAim_1
theorem dksX0_drawsAim_0 : cX0_drawsAim.data.toList.drop 0 = dktX0_drawsAim_0 := by decide +kernel
theorem dksX0_drawsAim_1 : cX0_drawsAim.data.toList.drop 24 = dktX0_drawsAim_1 := dk_seg dksX0_drawsAim_0 24 rfl rfl
theorem dX0_drawsAim_0 : decode cX0_drawsAim 0 = .ok (.aload_n 0, 1) := dk_42 (dk_at dksX0_drawsAim_0 0 rfl rfl)
theorem dX0_drawsAim_1 : decode cX0_drawsAim 1 = .ok (.getfield 12, 3) := dk_180 0 12 (dk_at dksX0_drawsAim_0 1 rfl rfl)
theorem dX0_drawsAim_4 : decode cX0_drawsAim 4 = .ok (.invokevirtual 125, 3) := dk_182 0 125 (dk_at dksX0_drawsAim_0 4 rfl rfl)
theorem dX0_drawsAim_7 : decode cX0_drawsAim 7 = .ok (.ifCond .ne 4, 3) := dk_154 0 4 (dk_at dksX0_drawsAim_0 7 rfl rfl)
theorem dX0_drawsAim_10 : decode cX0_drawsAim 10 = .ok (.return_, 1) := dk_177 (dk_at dksX0_drawsAim_0 10 rfl rfl)
theorem dX0_drawsAim_11 : decode cX0_drawsAim 11 = .ok (.aload_n 0, 1) := dk_42 (dk_at dksX0_drawsAim_0 11 rfl rfl)
theorem dX0_drawsAim_12 : decode cX0_drawsAim 12 = .ok (.aload_n 0, 1) := dk_42 (dk_at dksX0_drawsAim_0 12 rfl rfl)
theorem dX0_drawsAim_13 : decode cX0_drawsAim 13 = .ok (.getfield 12, 3) := dk_180 0 12 (dk_at dksX0_drawsAim_0 13 rfl rfl)
theorem dX0_drawsAim_16 : decode cX0_drawsAim 16 = .ok (.invokevirtual 125, 3) := dk_182 0 125 (dk_at dksX0_drawsAim_0 16 rfl rfl)
theorem dX0_drawsAim_19 : decode cX0_drawsAim 19 = .ok (.invokevirtual 400, 3) := dk_182 1 144 (dk_at dksX0_drawsAim_0 19 rfl rfl)
theorem dX0_drawsAim_22 : decode cX0_drawsAim 22 = .ok (.istore_n 1, 1) := dk_60 (dk_at dksX0_drawsAim_0 22 rfl rfl)
theorem dX0_drawsAim_23 : decode cX0_drawsAim 23 = .ok (.aload_n 0, 1) := dk_42 (dk_at dksX0_drawsAim_0 23 rfl rfl)
theorem dX0_drawsAim_24 : decode cX0_drawsAim 24 = .ok (.getfield 23, 3) := dk_180 0 23 (dk_at dksX0_drawsAim_1 0 rfl rfl)
theorem dX0_drawsAim_27 : decode cX0_drawsAim 27 = .ok (.getfield 192, 3) := dk_180 0 192 (dk_at dksX0_drawsAim_1 3 rfl rfl)
theorem dX0_drawsAim_30 : decode cX0_drawsAim 30 = .ok (.iload_n 1, 1) := dk_27 (dk_at dksX0_drawsAim_1 6 rfl rfl)
theorem dX0_drawsAim_31 : decode cX0_drawsAim 31 = .ok (.aload_n 0, 1) := dk_42 (dk_at dksX0_drawsAim_1 7 rfl rfl)
theorem dX0_drawsAim_32 : decode cX0_drawsAim 32 = .ok (.aload_n 0, 1) := dk_42 (dk_at dksX0_drawsAim_1 8 rfl rfl)
theorem dX0_drawsAim_33 : decode cX0_drawsAim 33 = .ok (.getfield 12, 3) := dk_180 0 12 (dk_at dksX0_drawsAim_1 9 rfl rfl)
theorem dX0_drawsAim_36 : decode cX0_drawsAim 36 = .ok (.getfield 123, 3) := dk_180 0 123 (dk_at dksX0_drawsAim_1 12 rfl rfl)
theorem dX0_drawsAim_39 : decode cX0_drawsAim 39 = .ok (.invokevirtual 400, 3) := dk_182 1 144 (dk_at dksX0_drawsAim_1 15 rfl rfl)
theorem dX0_drawsAim_42 : decode cX0_drawsAim 42 = .ok (.iastore, 1) := dk_79 (dk_at dksX0_drawsAim_1 18 rfl rfl)
theorem dX0_drawsAim_43 : decode cX0_drawsAim 43 = .ok (.return_, 1) := dk_177 (dk_at dksX0_drawsAim_1 19 rfl rfl)
abbrev cX0_draws : ByteArray := prog_1_method_68_code
def yX0_draws : MethodName := ⟨RX0, "draws", "(I)I"⟩
def dkwX0_draws_1 : List UInt8 := [180, 1, 134, 19, 1, 143, 108, 27, 112, 172]
abbrev dktX0_draws_1 : List UInt8 := dkwX0_draws_1 ++ []
def dkwX0_draws_0 : List UInt8 := [42, 42, 180, 1, 134, 133, 20, 1, 137, 105, 20, 1, 139, 97, 20, 1, 141, 113, 136, 181, 1, 134, 42]
abbrev dktX0_draws_0 : List UInt8 := dkwX0_draws_0 ++ dktX0_draws_1
theorem dksX0_draws_0 : cX0_draws.data.toList.drop 0 = dktX0_draws_0 := by decide +kernel
theorem dksX0_draws_1 : cX0_draws.data.toList.drop 23 = dktX0_draws_1 := dk_seg dksX0_draws_0 23 rfl rfl
theorem dX0_draws_0 : decode cX0_draws 0 = .ok (.aload_n 0, 1) := dk_42 (dk_at dksX0_draws_0 0 rfl rfl)
theorem dX0_draws_1 : decode cX0_draws 1 = .ok (.aload_n 0, 1) := dk_42 (dk_at dksX0_draws_0 1 rfl rfl)
theorem dX0_draws_2 : decode cX0_draws 2 = .ok (.getfield 390, 3) := dk_180 1 134 (dk_at dksX0_draws_0 2 rfl rfl)
theorem dX0_draws_5 : decode cX0_draws 5 = .ok (.i2l, 1) := dk_133 (dk_at dksX0_draws_0 5 rfl rfl)
theorem dX0_draws_6 : decode cX0_draws 6 = .ok (.ldc2_w 393, 3) := dk_20 1 137 (dk_at dksX0_draws_0 6 rfl rfl)
theorem dX0_draws_9 : decode cX0_draws 9 = .ok (.lmul, 1) := dk_105 (dk_at dksX0_draws_0 9 rfl rfl)
theorem dX0_draws_10 : decode cX0_draws 10 = .ok (.ldc2_w 395, 3) := dk_20 1 139 (dk_at dksX0_draws_0 10 rfl rfl)
theorem dX0_draws_13 : decode cX0_draws 13 = .ok (.ladd, 1) := dk_97 (dk_at dksX0_draws_0 13 rfl rfl)
theorem dX0_draws_14 : decode cX0_draws 14 = .ok (.ldc2_w 397, 3) := dk_20 1 141 (dk_at dksX0_draws_0 14 rfl rfl)
theorem dX0_draws_17 : decode cX0_draws 17 = .ok (.lrem, 1) := dk_113 (dk_at dksX0_draws_0 17 rfl rfl)
theorem dX0_draws_18 : decode cX0_draws 18 = .ok (.l2i, 1) := dk_136 (dk_at dksX0_draws_0 18 rfl rfl)
theorem dX0_draws_19 : decode cX0_draws 19 = .ok (.putfield 390, 3) := dk_181 1 134 (dk_at dksX0_draws_0 19 rfl rfl)
theorem dX0_draws_22 : decode cX0_draws 22 = .ok (.aload_n 0, 1) := dk_42 (dk_at dksX0_draws_0 22 rfl rfl)
theorem dX0_draws_23 : decode cX0_draws 23 = .ok (.getfield 390, 3) := dk_180 1 134 (dk_at dksX0_draws_1 0 rfl rfl)
theorem dX0_draws_26 : decode cX0_draws 26 = .ok (.ldc_w 399, 3) := dk_19 1 143 (dk_at dksX0_draws_1 3 rfl rfl)
theorem dX0_draws_29 : decode cX0_draws 29 = .ok (.idiv, 1) := dk_108 (dk_at dksX0_draws_1 6 rfl rfl)
theorem dX0_draws_30 : decode cX0_draws 30 = .ok (.iload_n 1, 1) := dk_27 (dk_at dksX0_draws_1 7 rfl rfl)
theorem dX0_draws_31 : decode cX0_draws 31 = .ok (.irem, 1) := dk_112 (dk_at dksX0_draws_1 8 rfl rfl)
theorem dX0_draws_32 : decode cX0_draws 32 = .ok (.ireturn, 1) := dk_172 (dk_at dksX0_draws_1 9 rfl rfl)
abbrev cX0_count : ByteArray := prog_1_method_71_code
def yX0_count : MethodName := ⟨RX0, "count", "(I)I"⟩
def dkwX0_count_6 : List UInt8 := [180, 1, 134, 172, 42, 180, 0, 146, 172, 2, 172]
abbrev dktX0_count_6 : List UInt8 := dkwX0_count_6 ++ []
def dkwX0_count_5 : List UInt8 := [182, 1, 152, 172, 42, 180, 0, 19, 182, 1, 155, 172, 42, 180, 0, 164, 172, 42, 180, 0, 167, 172, 42]
abbrev dktX0_count_5 : List UInt8 := dkwX0_count_5 ++ dktX0_count_6
def dkwX0_count_4 : List UInt8 := [172, 42, 180, 0, 12, 42, 180, 0, 19, 180, 0, 195, 182, 1, 14, 184, 1, 10, 172, 42, 180, 0, 19]
abbrev dktX0_count_4 : List UInt8 := dkwX0_count_4 ++ dktX0_count_5
def dkwX0_count_3 : List UInt8 := [182, 0, 125, 172, 42, 180, 0, 31, 182, 0, 136, 172, 42, 180, 0, 35, 172, 42, 180, 0, 19, 180, 0, 195]
abbrev dktX0_count_3 : List UInt8 := dkwX0_count_3 ++ dktX0_count_4
def dkwX0_count_2 : List UInt8 := [42, 180, 0, 12, 180, 0, 123, 172, 42, 180, 0, 12, 180, 0, 133, 182, 0, 136, 172, 42, 180, 0, 12]
abbrev dktX0_count_2 : List UInt8 := dkwX0_count_2 ++ dktX0_count_3
def dkwX0_count_1 : List UInt8 := [170, 0, 0, 0, 0, 0, 169, 0, 0, 0, 0, 0, 0, 0, 12, 0, 0, 0, 67, 0, 0, 0, 75, 0, 0, 0, 86, 0, 0, 0, 94, 0, 0, 0, 102, 0, 0, 0, 107, 0, 0, 0, 115, 0, 0, 0, 133, 0, 0, 0, 141, 0, 0, 0, 149, 0, 0, 0, 154, 0, 0, 0, 159, 0, 0, 0, 164]
abbrev dktX0_count_1 : List UInt8 := dkwX0_count_1 ++ dktX0_count_2
def dkwX0_count_0 : List UInt8 := [27]
abbrev dktX0_count_0 : List UInt8 := dkwX0_count_0 ++ dktX0_count_1
theorem dksX0_count_0 : cX0_count.data.toList.drop 0 = dktX0_count_0 := by decide +kernel
theorem dksX0_count_1 : cX0_count.data.toList.drop 1 = dktX0_count_1 := dk_seg dksX0_count_0 1 rfl rfl
theorem dksX0_count_2 : cX0_count.data.toList.drop 68 = dktX0_count_2 := dk_seg dksX0_count_1 67 rfl rfl
theorem dksX0_count_3 : cX0_count.data.toList.drop 91 = dktX0_count_3 := dk_seg dksX0_count_2 23 rfl rfl
theorem dksX0_count_4 : cX0_count.data.toList.drop 115 = dktX0_count_4 := dk_seg dksX0_count_3 24 rfl rfl
theorem dksX0_count_5 : cX0_count.data.toList.drop 138 = dktX0_count_5 := dk_seg dksX0_count_4 23 rfl rfl
theorem dksX0_count_6 : cX0_count.data.toList.drop 161 = dktX0_count_6 := dk_seg dksX0_count_5 23 rfl rfl
theorem dX0_count_0 : decode cX0_count 0 = .ok (.iload_n 1, 1) := dk_27 (dk_at dksX0_count_0 0 rfl rfl)
theorem dX0_count_1 : decode cX0_count 1 = .ok (.tableswitch 169 0 12 #[67, 75, 86, 94, 102, 107, 115, 133, 141, 149, 154, 159, 164], 67) := by decide +kernel
theorem dX0_count_68 : decode cX0_count 68 = .ok (.aload_n 0, 1) := dk_42 (dk_at dksX0_count_2 0 rfl rfl)
theorem dX0_count_69 : decode cX0_count 69 = .ok (.getfield 12, 3) := dk_180 0 12 (dk_at dksX0_count_2 1 rfl rfl)
theorem dX0_count_72 : decode cX0_count 72 = .ok (.getfield 123, 3) := dk_180 0 123 (dk_at dksX0_count_2 4 rfl rfl)
theorem dX0_count_75 : decode cX0_count 75 = .ok (.ireturn, 1) := dk_172 (dk_at dksX0_count_2 7 rfl rfl)
theorem dX0_count_76 : decode cX0_count 76 = .ok (.aload_n 0, 1) := dk_42 (dk_at dksX0_count_2 8 rfl rfl)
theorem dX0_count_77 : decode cX0_count 77 = .ok (.getfield 12, 3) := dk_180 0 12 (dk_at dksX0_count_2 9 rfl rfl)
theorem dX0_count_80 : decode cX0_count 80 = .ok (.getfield 133, 3) := dk_180 0 133 (dk_at dksX0_count_2 12 rfl rfl)
theorem dX0_count_83 : decode cX0_count 83 = .ok (.invokevirtual 136, 3) := dk_182 0 136 (dk_at dksX0_count_2 15 rfl rfl)
theorem dX0_count_86 : decode cX0_count 86 = .ok (.ireturn, 1) := dk_172 (dk_at dksX0_count_2 18 rfl rfl)
theorem dX0_count_87 : decode cX0_count 87 = .ok (.aload_n 0, 1) := dk_42 (dk_at dksX0_count_2 19 rfl rfl)
theorem dX0_count_88 : decode cX0_count 88 = .ok (.getfield 12, 3) := dk_180 0 12 (dk_at dksX0_count_2 20 rfl rfl)
theorem dX0_count_91 : decode cX0_count 91 = .ok (.invokevirtual 125, 3) := dk_182 0 125 (dk_at dksX0_count_3 0 rfl rfl)
theorem dX0_count_94 : decode cX0_count 94 = .ok (.ireturn, 1) := dk_172 (dk_at dksX0_count_3 3 rfl rfl)
theorem dX0_count_95 : decode cX0_count 95 = .ok (.aload_n 0, 1) := dk_42 (dk_at dksX0_count_3 4 rfl rfl)
theorem dX0_count_96 : decode cX0_count 96 = .ok (.getfield 31, 3) := dk_180 0 31 (dk_at dksX0_count_3 5 rfl rfl)
theorem dX0_count_99 : decode cX0_count 99 = .ok (.invokevirtual 136, 3) := dk_182 0 136 (dk_at dksX0_count_3 8 rfl rfl)
theorem dX0_count_102 : decode cX0_count 102 = .ok (.ireturn, 1) := dk_172 (dk_at dksX0_count_3 11 rfl rfl)
theorem dX0_count_103 : decode cX0_count 103 = .ok (.aload_n 0, 1) := dk_42 (dk_at dksX0_count_3 12 rfl rfl)
theorem dX0_count_104 : decode cX0_count 104 = .ok (.getfield 35, 3) := dk_180 0 35 (dk_at dksX0_count_3 13 rfl rfl)
theorem dX0_count_107 : decode cX0_count 107 = .ok (.ireturn, 1) := dk_172 (dk_at dksX0_count_3 16 rfl rfl)
theorem dX0_count_108 : decode cX0_count 108 = .ok (.aload_n 0, 1) := dk_42 (dk_at dksX0_count_3 17 rfl rfl)
theorem dX0_count_109 : decode cX0_count 109 = .ok (.getfield 19, 3) := dk_180 0 19 (dk_at dksX0_count_3 18 rfl rfl)
theorem dX0_count_112 : decode cX0_count 112 = .ok (.getfield 195, 3) := dk_180 0 195 (dk_at dksX0_count_3 21 rfl rfl)
theorem dX0_count_115 : decode cX0_count 115 = .ok (.ireturn, 1) := dk_172 (dk_at dksX0_count_4 0 rfl rfl)
theorem dX0_count_116 : decode cX0_count 116 = .ok (.aload_n 0, 1) := dk_42 (dk_at dksX0_count_4 1 rfl rfl)
theorem dX0_count_117 : decode cX0_count 117 = .ok (.getfield 12, 3) := dk_180 0 12 (dk_at dksX0_count_4 2 rfl rfl)
theorem dX0_count_120 : decode cX0_count 120 = .ok (.aload_n 0, 1) := dk_42 (dk_at dksX0_count_4 5 rfl rfl)
theorem dX0_count_121 : decode cX0_count 121 = .ok (.getfield 19, 3) := dk_180 0 19 (dk_at dksX0_count_4 6 rfl rfl)
theorem dX0_count_124 : decode cX0_count 124 = .ok (.getfield 195, 3) := dk_180 0 195 (dk_at dksX0_count_4 9 rfl rfl)
theorem dX0_count_127 : decode cX0_count 127 = .ok (.invokevirtual 270, 3) := dk_182 1 14 (dk_at dksX0_count_4 12 rfl rfl)
theorem dX0_count_130 : decode cX0_count 130 = .ok (.invokestatic 266, 3) := dk_184 1 10 (dk_at dksX0_count_4 15 rfl rfl)
theorem dX0_count_133 : decode cX0_count 133 = .ok (.ireturn, 1) := dk_172 (dk_at dksX0_count_4 18 rfl rfl)
theorem dX0_count_134 : decode cX0_count 134 = .ok (.aload_n 0, 1) := dk_42 (dk_at dksX0_count_4 19 rfl rfl)
theorem dX0_count_135 : decode cX0_count 135 = .ok (.getfield 19, 3) := dk_180 0 19 (dk_at dksX0_count_4 20 rfl rfl)
theorem dX0_count_138 : decode cX0_count 138 = .ok (.invokevirtual 408, 3) := dk_182 1 152 (dk_at dksX0_count_5 0 rfl rfl)
theorem dX0_count_141 : decode cX0_count 141 = .ok (.ireturn, 1) := dk_172 (dk_at dksX0_count_5 3 rfl rfl)
theorem dX0_count_142 : decode cX0_count 142 = .ok (.aload_n 0, 1) := dk_42 (dk_at dksX0_count_5 4 rfl rfl)
theorem dX0_count_143 : decode cX0_count 143 = .ok (.getfield 19, 3) := dk_180 0 19 (dk_at dksX0_count_5 5 rfl rfl)
theorem dX0_count_146 : decode cX0_count 146 = .ok (.invokevirtual 411, 3) := dk_182 1 155 (dk_at dksX0_count_5 8 rfl rfl)
theorem dX0_count_149 : decode cX0_count 149 = .ok (.ireturn, 1) := dk_172 (dk_at dksX0_count_5 11 rfl rfl)
theorem dX0_count_150 : decode cX0_count 150 = .ok (.aload_n 0, 1) := dk_42 (dk_at dksX0_count_5 12 rfl rfl)
theorem dX0_count_151 : decode cX0_count 151 = .ok (.getfield 164, 3) := dk_180 0 164 (dk_at dksX0_count_5 13 rfl rfl)
theorem dX0_count_154 : decode cX0_count 154 = .ok (.ireturn, 1) := dk_172 (dk_at dksX0_count_5 16 rfl rfl)
theorem dX0_count_155 : decode cX0_count 155 = .ok (.aload_n 0, 1) := dk_42 (dk_at dksX0_count_5 17 rfl rfl)
theorem dX0_count_156 : decode cX0_count 156 = .ok (.getfield 167, 3) := dk_180 0 167 (dk_at dksX0_count_5 18 rfl rfl)
theorem dX0_count_159 : decode cX0_count 159 = .ok (.ireturn, 1) := dk_172 (dk_at dksX0_count_5 21 rfl rfl)
theorem dX0_count_160 : decode cX0_count 160 = .ok (.aload_n 0, 1) := dk_42 (dk_at dksX0_count_5 22 rfl rfl)
theorem dX0_count_161 : decode cX0_count 161 = .ok (.getfield 390, 3) := dk_180 1 134 (dk_at dksX0_count_6 0 rfl rfl)
theorem dX0_count_164 : decode cX0_count 164 = .ok (.ireturn, 1) := dk_172 (dk_at dksX0_count_6 3 rfl rfl)
theorem dX0_count_165 : decode cX0_count 165 = .ok (.aload_n 0, 1) := dk_42 (dk_at dksX0_count_6 4 rfl rfl)
theorem dX0_count_166 : decode cX0_count 166 = .ok (.getfield 146, 3) := dk_180 0 146 (dk_at dksX0_count_6 5 rfl rfl)
theorem dX0_count_169 : decode cX0_count 169 = .ok (.ireturn, 1) := dk_172 (dk_at dksX0_count_6 8 rfl rfl)
theorem dX0_count_170 : decode cX0_count 170 = .ok (.iconst (-1), 1) := dk_2 (dk_at dksX0_count_6 9 rfl rfl)
theorem dX0_count_171 : decode cX0_count 171 = .ok (.ireturn, 1) := dk_172 (dk_at dksX0_count_6 10 rfl rfl)
abbrev cX0_image : ByteArray := prog_1_method_72_code
def yX0_image : MethodName := ⟨RX0, "image", "(I)I"⟩
def dkwX0_image_2 : List UInt8 := [180, 0, 19, 180, 0, 195, 172]
abbrev dktX0_image_2 : List UInt8 := dkwX0_image_2 ++ []
def dkwX0_image_1 : List UInt8 := [180, 0, 119, 27, 187, 0, 117, 89, 42, 183, 1, 160, 83, 42, 180, 0, 119, 27, 50, 182, 1, 163, 42]
abbrev dktX0_image_1 : List UInt8 := dkwX0_image_1 ++ dktX0_image_2
def dkwX0_image_0 : List UInt8 := [27, 133, 9, 20, 1, 158, 184, 0, 129, 154, 0, 5, 2, 172, 42, 180, 0, 119, 27, 50, 199, 0, 17, 42]
abbrev dktX0_image_0 : List UInt8 := dkwX0_image_0 ++ dktX0_image_1
theorem dksX0_image_0 : cX0_image.data.toList.drop 0 = dktX0_image_0 := by decide +kernel
theorem dksX0_image_1 : cX0_image.data.toList.drop 24 = dktX0_image_1 := dk_seg dksX0_image_0 24 rfl rfl
theorem dksX0_image_2 : cX0_image.data.toList.drop 47 = dktX0_image_2 := dk_seg dksX0_image_1 23 rfl rfl
theorem dX0_image_0 : decode cX0_image 0 = .ok (.iload_n 1, 1) := dk_27 (dk_at dksX0_image_0 0 rfl rfl)
theorem dX0_image_1 : decode cX0_image 1 = .ok (.i2l, 1) := dk_133 (dk_at dksX0_image_0 1 rfl rfl)
theorem dX0_image_2 : decode cX0_image 2 = .ok (.lconst 0, 1) := dk_9 (dk_at dksX0_image_0 2 rfl rfl)
theorem dX0_image_3 : decode cX0_image 3 = .ok (.ldc2_w 414, 3) := dk_20 1 158 (dk_at dksX0_image_0 3 rfl rfl)
theorem dX0_image_6 : decode cX0_image 6 = .ok (.invokestatic 129, 3) := dk_184 0 129 (dk_at dksX0_image_0 6 rfl rfl)
theorem dX0_image_9 : decode cX0_image 9 = .ok (.ifCond .ne 5, 3) := dk_154 0 5 (dk_at dksX0_image_0 9 rfl rfl)
theorem dX0_image_12 : decode cX0_image 12 = .ok (.iconst (-1), 1) := dk_2 (dk_at dksX0_image_0 12 rfl rfl)
theorem dX0_image_13 : decode cX0_image 13 = .ok (.ireturn, 1) := dk_172 (dk_at dksX0_image_0 13 rfl rfl)
theorem dX0_image_14 : decode cX0_image 14 = .ok (.aload_n 0, 1) := dk_42 (dk_at dksX0_image_0 14 rfl rfl)
theorem dX0_image_15 : decode cX0_image 15 = .ok (.getfield 119, 3) := dk_180 0 119 (dk_at dksX0_image_0 15 rfl rfl)
theorem dX0_image_18 : decode cX0_image 18 = .ok (.iload_n 1, 1) := dk_27 (dk_at dksX0_image_0 18 rfl rfl)
theorem dX0_image_19 : decode cX0_image 19 = .ok (.aaload, 1) := dk_50 (dk_at dksX0_image_0 19 rfl rfl)
theorem dX0_image_20 : decode cX0_image 20 = .ok (.ifnonnull 17, 3) := dk_199 0 17 (dk_at dksX0_image_0 20 rfl rfl)
theorem dX0_image_23 : decode cX0_image 23 = .ok (.aload_n 0, 1) := dk_42 (dk_at dksX0_image_0 23 rfl rfl)
theorem dX0_image_24 : decode cX0_image 24 = .ok (.getfield 119, 3) := dk_180 0 119 (dk_at dksX0_image_1 0 rfl rfl)
theorem dX0_image_27 : decode cX0_image 27 = .ok (.iload_n 1, 1) := dk_27 (dk_at dksX0_image_1 3 rfl rfl)
theorem dX0_image_28 : decode cX0_image 28 = .ok (.new 117, 3) := dk_187 0 117 (dk_at dksX0_image_1 4 rfl rfl)
theorem dX0_image_31 : decode cX0_image 31 = .ok (.dup, 1) := dk_89 (dk_at dksX0_image_1 7 rfl rfl)
theorem dX0_image_32 : decode cX0_image 32 = .ok (.aload_n 0, 1) := dk_42 (dk_at dksX0_image_1 8 rfl rfl)
theorem dX0_image_33 : decode cX0_image 33 = .ok (.invokespecial 416, 3) := dk_183 1 160 (dk_at dksX0_image_1 9 rfl rfl)
theorem dX0_image_36 : decode cX0_image 36 = .ok (.aastore, 1) := dk_83 (dk_at dksX0_image_1 12 rfl rfl)
theorem dX0_image_37 : decode cX0_image 37 = .ok (.aload_n 0, 1) := dk_42 (dk_at dksX0_image_1 13 rfl rfl)
theorem dX0_image_38 : decode cX0_image 38 = .ok (.getfield 119, 3) := dk_180 0 119 (dk_at dksX0_image_1 14 rfl rfl)
theorem dX0_image_41 : decode cX0_image 41 = .ok (.iload_n 1, 1) := dk_27 (dk_at dksX0_image_1 17 rfl rfl)
theorem dX0_image_42 : decode cX0_image 42 = .ok (.aaload, 1) := dk_50 (dk_at dksX0_image_1 18 rfl rfl)
theorem dX0_image_43 : decode cX0_image 43 = .ok (.invokevirtual 419, 3) := dk_182 1 163 (dk_at dksX0_image_1 19 rfl rfl)
theorem dX0_image_46 : decode cX0_image 46 = .ok (.aload_n 0, 1) := dk_42 (dk_at dksX0_image_1 22 rfl rfl)
theorem dX0_image_47 : decode cX0_image 47 = .ok (.getfield 19, 3) := dk_180 0 19 (dk_at dksX0_image_2 0 rfl rfl)
theorem dX0_image_50 : decode cX0_image 50 = .ok (.getfield 195, 3) := dk_180 0 195 (dk_at dksX0_image_2 3 rfl rfl)
theorem dX0_image_53 : decode cX0_image 53 = .ok (.ireturn, 1) := dk_172 (dk_at dksX0_image_2 6 rfl rfl)
abbrev cX0_back : ByteArray := prog_1_method_73_code
def yX0_back : MethodName := ⟨RX0, "back", "(I)I"⟩
def dkwX0_back_1 : List UInt8 := [180, 0, 119, 27, 50, 182, 1, 166, 42, 180, 0, 19, 180, 0, 195, 172]
abbrev dktX0_back_1 : List UInt8 := dkwX0_back_1 ++ []
def dkwX0_back_0 : List UInt8 := [27, 133, 9, 20, 1, 158, 184, 0, 129, 153, 0, 12, 42, 180, 0, 119, 27, 50, 199, 0, 5, 2, 172, 42]
abbrev dktX0_back_0 : List UInt8 := dkwX0_back_0 ++ dktX0_back_1
theorem dksX0_back_0 : cX0_back.data.toList.drop 0 = dktX0_back_0 := by decide +kernel
theorem dksX0_back_1 : cX0_back.data.toList.drop 24 = dktX0_back_1 := dk_seg dksX0_back_0 24 rfl rfl
theorem dX0_back_0 : decode cX0_back 0 = .ok (.iload_n 1, 1) := dk_27 (dk_at dksX0_back_0 0 rfl rfl)
theorem dX0_back_1 : decode cX0_back 1 = .ok (.i2l, 1) := dk_133 (dk_at dksX0_back_0 1 rfl rfl)
theorem dX0_back_2 : decode cX0_back 2 = .ok (.lconst 0, 1) := dk_9 (dk_at dksX0_back_0 2 rfl rfl)
theorem dX0_back_3 : decode cX0_back 3 = .ok (.ldc2_w 414, 3) := dk_20 1 158 (dk_at dksX0_back_0 3 rfl rfl)
theorem dX0_back_6 : decode cX0_back 6 = .ok (.invokestatic 129, 3) := dk_184 0 129 (dk_at dksX0_back_0 6 rfl rfl)
theorem dX0_back_9 : decode cX0_back 9 = .ok (.ifCond .eq 12, 3) := dk_153 0 12 (dk_at dksX0_back_0 9 rfl rfl)
theorem dX0_back_12 : decode cX0_back 12 = .ok (.aload_n 0, 1) := dk_42 (dk_at dksX0_back_0 12 rfl rfl)
theorem dX0_back_13 : decode cX0_back 13 = .ok (.getfield 119, 3) := dk_180 0 119 (dk_at dksX0_back_0 13 rfl rfl)
theorem dX0_back_16 : decode cX0_back 16 = .ok (.iload_n 1, 1) := dk_27 (dk_at dksX0_back_0 16 rfl rfl)
theorem dX0_back_17 : decode cX0_back 17 = .ok (.aaload, 1) := dk_50 (dk_at dksX0_back_0 17 rfl rfl)
theorem dX0_back_18 : decode cX0_back 18 = .ok (.ifnonnull 5, 3) := dk_199 0 5 (dk_at dksX0_back_0 18 rfl rfl)
theorem dX0_back_21 : decode cX0_back 21 = .ok (.iconst (-1), 1) := dk_2 (dk_at dksX0_back_0 21 rfl rfl)
theorem dX0_back_22 : decode cX0_back 22 = .ok (.ireturn, 1) := dk_172 (dk_at dksX0_back_0 22 rfl rfl)
theorem dX0_back_23 : decode cX0_back 23 = .ok (.aload_n 0, 1) := dk_42 (dk_at dksX0_back_0 23 rfl rfl)
theorem dX0_back_24 : decode cX0_back 24 = .ok (.getfield 119, 3) := dk_180 0 119 (dk_at dksX0_back_1 0 rfl rfl)
theorem dX0_back_27 : decode cX0_back 27 = .ok (.iload_n 1, 1) := dk_27 (dk_at dksX0_back_1 3 rfl rfl)
theorem dX0_back_28 : decode cX0_back 28 = .ok (.aaload, 1) := dk_50 (dk_at dksX0_back_1 4 rfl rfl)
theorem dX0_back_29 : decode cX0_back 29 = .ok (.invokevirtual 422, 3) := dk_182 1 166 (dk_at dksX0_back_1 5 rfl rfl)
theorem dX0_back_32 : decode cX0_back 32 = .ok (.aload_n 0, 1) := dk_42 (dk_at dksX0_back_1 8 rfl rfl)
theorem dX0_back_33 : decode cX0_back 33 = .ok (.getfield 19, 3) := dk_180 0 19 (dk_at dksX0_back_1 9 rfl rfl)
theorem dX0_back_36 : decode cX0_back 36 = .ok (.getfield 195, 3) := dk_180 0 195 (dk_at dksX0_back_1 12 rfl rfl)
theorem dX0_back_39 : decode cX0_back 39 = .ok (.ireturn, 1) := dk_172 (dk_at dksX0_back_1 15 rfl rfl)
theorem q150 : (Jvm.Cond.initialized "OutwardDoors") ∈ lw_all := lw_g (lw_at lw_m1 1 rfl) rfl
theorem q186 : (Jvm.Cond.instantiable "OutwardDoors" (32 : Nat)) ∈ lw_all := lw_g (lw_at lw_m1 37 rfl) rfl
theorem q188 : (Jvm.Cond.instanceMethod ({ cls := "OutwardDoors", name := "<init>", desc := "()V" } : Jvm.MethodName)) ∈ lw_all := lw_g (lw_at lw_m1 39 rfl) rfl
theorem q189 : (Jvm.Cond.code ({ cls := "OutwardDoors", name := "<init>", desc := "()V" } : Jvm.MethodName) prog_1_method_4_code (1 : Nat) (Option.none : Option Jvm.ClassFile.FieldType)) ∈ lw_all := lw_g (lw_at lw_m1 40 rfl) rfl
theorem q190 : (Jvm.Cond.methodLink "OutwardDoors" (3 : Nat) ({ cls := "java/lang/Object", name := "<init>", desc := "()V" } : Jvm.MethodName)) ∈ lw_all := lw_g (lw_at lw_m1 41 rfl) rfl
theorem q193 : (Jvm.Cond.classLink "OutwardDoors" (9 : Nat) "OutwardDoors$Castle") ∈ lw_all := lw_g (lw_at lw_m1 44 rfl) rfl
theorem q195 : (Jvm.Cond.methodLink "OutwardDoors" (11 : Nat) ({ cls := "OutwardDoors$Castle", name := "<init>", desc := "()V" } : Jvm.MethodName)) ∈ lw_all := lw_g (lw_at lw_m1 46 rfl) rfl
theorem q230 : (Jvm.Cond.fieldLinkNest "OutwardDoors" (220 : Nat) "OutwardDoors$Castle" "people" "Ljava/util/ArrayList;" "OutwardDoors") ∈ lw_tbl := lw_at lw_m1 81 rfl
theorem q232 : (Jvm.Cond.fieldLinkNest "OutwardDoors" (133 : Nat) "OutwardDoors$Castle" "doors" "Ljava/util/ArrayList;" "OutwardDoors") ∈ lw_tbl := lw_at lw_m1 83 rfl
theorem q236 : (Jvm.Cond.fieldLinkNest "OutwardDoors" (248 : Nat) "OutwardDoors$Castle" "far" "[I" "OutwardDoors") ∈ lw_tbl := lw_at lw_m1 87 rfl
theorem q237 : (Jvm.Cond.fieldLinkNest "OutwardDoors" (123 : Nat) "OutwardDoors$Castle" "rooms" "I" "OutwardDoors") ∈ lw_tbl := lw_at lw_m1 88 rfl
theorem q257 : (Jvm.Cond.classLink "OutwardDoors" (16 : Nat) "OutwardDoors$State") ∈ lw_all := lw_g (lw_at lw_m1 108 rfl) rfl
theorem q259 : (Jvm.Cond.methodLinkNest "OutwardDoors" (18 : Nat) ({ cls := "OutwardDoors$State", name := "<init>", desc := "()V" } : Jvm.MethodName) "OutwardDoors") ∈ lw_tbl := lw_at lw_m1 110 rfl
theorem q264 : (Jvm.Cond.fieldLinkNest "OutwardDoors" (202 : Nat) "OutwardDoors$State" "room" "[I" "OutwardDoors") ∈ lw_tbl := lw_at lw_m1 115 rfl
theorem q266 : (Jvm.Cond.fieldLinkNest "OutwardDoors" (192 : Nat) "OutwardDoors$State" "goal" "[I" "OutwardDoors") ∈ lw_tbl := lw_at lw_m1 117 rfl
theorem q268 : (Jvm.Cond.fieldLinkNest "OutwardDoors" (236 : Nat) "OutwardDoors$State" "came" "[I" "OutwardDoors") ∈ lw_tbl := lw_at lw_m1 119 rfl
theorem q270 : (Jvm.Cond.fieldLinkNest "OutwardDoors" (239 : Nat) "OutwardDoors$State" "went" "[I" "OutwardDoors") ∈ lw_tbl := lw_at lw_m1 121 rfl
theorem q272 : (Jvm.Cond.fieldLinkNest "OutwardDoors" (242 : Nat) "OutwardDoors$State" "by" "[I" "OutwardDoors") ∈ lw_tbl := lw_at lw_m1 123 rfl
theorem q274 : (Jvm.Cond.fieldLinkNest "OutwardDoors" (195 : Nat) "OutwardDoors$State" "moment" "I" "OutwardDoors") ∈ lw_tbl := lw_at lw_m1 125 rfl
theorem q288 : (Jvm.Cond.classLink "OutwardDoors" (26 : Nat) "java/util/ArrayList") ∈ lw_all := lw_g (lw_at lw_m1 139 rfl) rfl
theorem q289 : (Jvm.Cond.methodLink "OutwardDoors" (28 : Nat) ({ cls := "java/util/ArrayList", name := "<init>", desc := "(I)V" } : Jvm.MethodName)) ∈ lw_all := lw_g (lw_at lw_m1 140 rfl) rfl
theorem q290 : (Jvm.Cond.classLink "OutwardDoors" (39 : Nat) "OutwardDoors$Wrong") ∈ lw_all := lw_g (lw_at lw_m1 141 rfl) rfl
theorem q327 : (Jvm.Cond.methodLinkNest "OutwardDoors" (41 : Nat) ({ cls := "OutwardDoors$Wrong", name := "<init>", desc := "()V" } : Jvm.MethodName) "OutwardDoors") ∈ lw_tbl := lw_at lw_m1 178 rfl
theorem q334 : (Jvm.Cond.fieldLinkNest "OutwardDoors" (143 : Nat) "OutwardDoors$Wrong" "number" "I" "OutwardDoors") ∈ lw_tbl := lw_at lw_m1 185 rfl
theorem q349 : (Jvm.Cond.fieldLink "OutwardDoors" (63 : Nat) "OutwardDoors" "NAMES" "[Ljava/lang/String;") ∈ lw_all := lw_g (lw_at lw_m1 200 rfl) rfl
theorem q350 : (Jvm.Cond.laysStatic "OutwardDoors" "NAMES" "[Ljava/lang/String;") ∈ lw_tbl := lw_at lw_m1 201 rfl
theorem q351 : (Jvm.Cond.methodLink "OutwardDoors" (83 : Nat) ({ cls := "OutwardDoors", name := "newStates", desc := "(I)[LOutwardDoors$State;" } : Jvm.MethodName)) ∈ lw_all := lw_g (lw_at lw_m1 202 rfl) rfl
theorem q352 : (Jvm.Cond.static ({ cls := "OutwardDoors", name := "newStates", desc := "(I)[LOutwardDoors$State;" } : Jvm.MethodName)) ∈ lw_all := lw_g (lw_at lw_m1 203 rfl) rfl
theorem q353 : (Jvm.Cond.code ({ cls := "OutwardDoors", name := "newStates", desc := "(I)[LOutwardDoors$State;" } : Jvm.MethodName) prog_1_method_31_code (3 : Nat) (Option.some (Jvm.ClassFile.FieldType.array (Jvm.ClassFile.FieldType.object "OutwardDoors$State")))) ∈ lw_all := lw_g (lw_at lw_m1 204 rfl) rfl
theorem q355 : (Jvm.Cond.constant "OutwardDoors" (91 : Nat) (32768 : Int32)) ∈ lw_all := lw_g (lw_at lw_m1 206 rfl) rfl
theorem q356 : (Jvm.Cond.classLink "OutwardDoors" (117 : Nat) "OutwardDoors$Image") ∈ lw_all := lw_g (lw_at lw_m1 207 rfl) rfl
theorem q359 : (Jvm.Cond.fieldLink "OutwardDoors" (12 : Nat) "OutwardDoors" "castle" "LOutwardDoors$Castle;") ∈ lw_all := lw_g (lw_at lw_m1 210 rfl) rfl
theorem q361 : (Jvm.Cond.fieldLink "OutwardDoors" (19 : Nat) "OutwardDoors" "state" "LOutwardDoors$State;") ∈ lw_all := lw_g (lw_at lw_m1 212 rfl) rfl
theorem q362 : (Jvm.Cond.fieldLink "OutwardDoors" (23 : Nat) "OutwardDoors" "kept" "LOutwardDoors$State;") ∈ lw_all := lw_g (lw_at lw_m1 213 rfl) rfl
theorem q363 : (Jvm.Cond.fieldLink "OutwardDoors" (31 : Nat) "OutwardDoors" "rules" "Ljava/util/ArrayList;") ∈ lw_all := lw_g (lw_at lw_m1 214 rfl) rfl
theorem q366 : (Jvm.Cond.fieldLink "OutwardDoors" (35 : Nat) "OutwardDoors" "inForce" "I") ∈ lw_all := lw_g (lw_at lw_m1 217 rfl) rfl
theorem q367 : (Jvm.Cond.fieldLink "OutwardDoors" (42 : Nat) "OutwardDoors" "wrong" "LOutwardDoors$Wrong;") ∈ lw_all := lw_g (lw_at lw_m1 218 rfl) rfl
theorem q369 : (Jvm.Cond.fieldLink "OutwardDoors" (46 : Nat) "OutwardDoors" "tape" "[B") ∈ lw_all := lw_g (lw_at lw_m1 220 rfl) rfl
theorem q371 : (Jvm.Cond.fieldLink "OutwardDoors" (146 : Nat) "OutwardDoors" "taped" "I") ∈ lw_all := lw_g (lw_at lw_m1 222 rfl) rfl
theorem q373 : (Jvm.Cond.fieldLink "OutwardDoors" (50 : Nat) "OutwardDoors" "noteWhen" "[I") ∈ lw_all := lw_g (lw_at lw_m1 224 rfl) rfl
theorem q375 : (Jvm.Cond.fieldLink "OutwardDoors" (54 : Nat) "OutwardDoors" "noteWho" "[I") ∈ lw_all := lw_g (lw_at lw_m1 226 rfl) rfl
theorem q377 : (Jvm.Cond.fieldLink "OutwardDoors" (57 : Nat) "OutwardDoors" "noteRoom" "[I") ∈ lw_all := lw_g (lw_at lw_m1 228 rfl) rfl
theorem q379 : (Jvm.Cond.fieldLink "OutwardDoors" (164 : Nat) "OutwardDoors" "noteMany" "I") ∈ lw_all := lw_g (lw_at lw_m1 230 rfl) rfl
theorem q381 : (Jvm.Cond.fieldLink "OutwardDoors" (390 : Nat) "OutwardDoors" "draw" "I") ∈ lw_all := lw_g (lw_at lw_m1 232 rfl) rfl
theorem q382 : (Jvm.Cond.fieldLink "OutwardDoors" (60 : Nat) "OutwardDoors" "leftTo" "[I") ∈ lw_all := lw_g (lw_at lw_m1 233 rfl) rfl
theorem q383 : (Jvm.Cond.fieldLink "OutwardDoors" (67 : Nat) "OutwardDoors" "words" "[J") ∈ lw_all := lw_g (lw_at lw_m1 234 rfl) rfl
theorem q384 : (Jvm.Cond.fieldLink "OutwardDoors" (71 : Nat) "OutwardDoors" "step" "[I") ∈ lw_all := lw_g (lw_at lw_m1 235 rfl) rfl
theorem q385 : (Jvm.Cond.fieldLink "OutwardDoors" (74 : Nat) "OutwardDoors" "will" "[I") ∈ lw_all := lw_g (lw_at lw_m1 236 rfl) rfl
theorem q386 : (Jvm.Cond.fieldLink "OutwardDoors" (77 : Nat) "OutwardDoors" "left" "[I") ∈ lw_all := lw_g (lw_at lw_m1 237 rfl) rfl
theorem q387 : (Jvm.Cond.fieldLink "OutwardDoors" (80 : Nat) "OutwardDoors" "outBy" "[I") ∈ lw_all := lw_g (lw_at lw_m1 238 rfl) rfl
theorem q388 : (Jvm.Cond.fieldLink "OutwardDoors" (87 : Nat) "OutwardDoors" "past" "[LOutwardDoors$State;") ∈ lw_all := lw_g (lw_at lw_m1 239 rfl) rfl
theorem q390 : (Jvm.Cond.fieldLink "OutwardDoors" (167 : Nat) "OutwardDoors" "pastMany" "I") ∈ lw_all := lw_g (lw_at lw_m2 1 rfl) rfl
theorem q391 : (Jvm.Cond.fieldLink "OutwardDoors" (306 : Nat) "OutwardDoors" "pastAt" "I") ∈ lw_all := lw_g (lw_at lw_m2 2 rfl) rfl
theorem q392 : (Jvm.Cond.fieldLink "OutwardDoors" (92 : Nat) "OutwardDoors" "steps" "[I") ∈ lw_all := lw_g (lw_at lw_m2 3 rfl) rfl
theorem q393 : (Jvm.Cond.fieldLink "OutwardDoors" (95 : Nat) "OutwardDoors" "from" "[I") ∈ lw_all := lw_g (lw_at lw_m2 4 rfl) rfl
theorem q394 : (Jvm.Cond.fieldLink "OutwardDoors" (98 : Nat) "OutwardDoors" "passing" "[I") ∈ lw_all := lw_g (lw_at lw_m2 5 rfl) rfl
theorem q395 : (Jvm.Cond.fieldLink "OutwardDoors" (101 : Nat) "OutwardDoors" "queue" "[I") ∈ lw_all := lw_g (lw_at lw_m2 6 rfl) rfl
theorem q396 : (Jvm.Cond.fieldLink "OutwardDoors" (328 : Nat) "OutwardDoors" "queued" "I") ∈ lw_all := lw_g (lw_at lw_m2 7 rfl) rfl
theorem q397 : (Jvm.Cond.fieldLink "OutwardDoors" (104 : Nat) "OutwardDoors" "turnedDoor" "I") ∈ lw_all := lw_g (lw_at lw_m2 8 rfl) rfl
theorem q398 : (Jvm.Cond.fieldLink "OutwardDoors" (107 : Nat) "OutwardDoors" "paid" "[I") ∈ lw_all := lw_g (lw_at lw_m2 9 rfl) rfl
theorem q399 : (Jvm.Cond.fieldLink "OutwardDoors" (110 : Nat) "OutwardDoors" "isDone" "[Z") ∈ lw_all := lw_g (lw_at lw_m2 10 rfl) rfl
theorem q400 : (Jvm.Cond.fieldLink "OutwardDoors" (114 : Nat) "OutwardDoors" "rooms" "[I") ∈ lw_all := lw_g (lw_at lw_m2 11 rfl) rfl
theorem q401 : (Jvm.Cond.fieldLink "OutwardDoors" (119 : Nat) "OutwardDoors" "images" "[LOutwardDoors$Image;") ∈ lw_all := lw_g (lw_at lw_m2 12 rfl) rfl
theorem q402 : (Jvm.Cond.lays "OutwardDoors" "OutwardDoors" "castle" "LOutwardDoors$Castle;") ∈ lw_all := lw_g (lw_at lw_m2 13 rfl) rfl
theorem q403 : (Jvm.Cond.soleField "OutwardDoors" "castle") ∈ lw_all := lw_g (lw_at lw_m2 14 rfl) rfl
theorem q404 : (Jvm.Cond.laysFinal "OutwardDoors" "OutwardDoors" "state" "LOutwardDoors$State;") ∈ lw_all := lw_g (lw_at lw_m2 15 rfl) rfl
theorem q405 : (Jvm.Cond.soleField "OutwardDoors" "state") ∈ lw_all := lw_g (lw_at lw_m2 16 rfl) rfl
theorem q406 : (Jvm.Cond.laysFinal "OutwardDoors" "OutwardDoors" "kept" "LOutwardDoors$State;") ∈ lw_all := lw_g (lw_at lw_m2 17 rfl) rfl
theorem q407 : (Jvm.Cond.soleField "OutwardDoors" "kept") ∈ lw_all := lw_g (lw_at lw_m2 18 rfl) rfl
theorem q408 : (Jvm.Cond.laysFinal "OutwardDoors" "OutwardDoors" "rules" "Ljava/util/ArrayList;") ∈ lw_all := lw_g (lw_at lw_m2 19 rfl) rfl
theorem q409 : (Jvm.Cond.soleField "OutwardDoors" "rules") ∈ lw_all := lw_g (lw_at lw_m2 20 rfl) rfl
theorem q410 : (Jvm.Cond.lays "OutwardDoors" "OutwardDoors" "inForce" "I") ∈ lw_all := lw_g (lw_at lw_m2 21 rfl) rfl
theorem q411 : (Jvm.Cond.soleField "OutwardDoors" "inForce") ∈ lw_all := lw_g (lw_at lw_m2 22 rfl) rfl
theorem q412 : (Jvm.Cond.laysFinal "OutwardDoors" "OutwardDoors" "wrong" "LOutwardDoors$Wrong;") ∈ lw_all := lw_g (lw_at lw_m2 23 rfl) rfl
theorem q413 : (Jvm.Cond.soleField "OutwardDoors" "wrong") ∈ lw_all := lw_g (lw_at lw_m2 24 rfl) rfl
theorem q414 : (Jvm.Cond.laysFinal "OutwardDoors" "OutwardDoors" "tape" "[B") ∈ lw_all := lw_g (lw_at lw_m2 25 rfl) rfl
theorem q415 : (Jvm.Cond.soleField "OutwardDoors" "tape") ∈ lw_all := lw_g (lw_at lw_m2 26 rfl) rfl
theorem q416 : (Jvm.Cond.lays "OutwardDoors" "OutwardDoors" "taped" "I") ∈ lw_all := lw_g (lw_at lw_m2 27 rfl) rfl
theorem q417 : (Jvm.Cond.soleField "OutwardDoors" "taped") ∈ lw_all := lw_g (lw_at lw_m2 28 rfl) rfl
theorem q418 : (Jvm.Cond.laysFinal "OutwardDoors" "OutwardDoors" "noteWhen" "[I") ∈ lw_all := lw_g (lw_at lw_m2 29 rfl) rfl
theorem q419 : (Jvm.Cond.soleField "OutwardDoors" "noteWhen") ∈ lw_all := lw_g (lw_at lw_m2 30 rfl) rfl
theorem q420 : (Jvm.Cond.laysFinal "OutwardDoors" "OutwardDoors" "noteWho" "[I") ∈ lw_all := lw_g (lw_at lw_m2 31 rfl) rfl
theorem q421 : (Jvm.Cond.soleField "OutwardDoors" "noteWho") ∈ lw_all := lw_g (lw_at lw_m2 32 rfl) rfl
theorem q422 : (Jvm.Cond.laysFinal "OutwardDoors" "OutwardDoors" "noteRoom" "[I") ∈ lw_all := lw_g (lw_at lw_m2 33 rfl) rfl
theorem q423 : (Jvm.Cond.soleField "OutwardDoors" "noteRoom") ∈ lw_all := lw_g (lw_at lw_m2 34 rfl) rfl
theorem q424 : (Jvm.Cond.lays "OutwardDoors" "OutwardDoors" "noteMany" "I") ∈ lw_all := lw_g (lw_at lw_m2 35 rfl) rfl
theorem q425 : (Jvm.Cond.soleField "OutwardDoors" "noteMany") ∈ lw_all := lw_g (lw_at lw_m2 36 rfl) rfl
theorem q426 : (Jvm.Cond.lays "OutwardDoors" "OutwardDoors" "draw" "I") ∈ lw_all := lw_g (lw_at lw_m2 37 rfl) rfl
theorem q427 : (Jvm.Cond.soleField "OutwardDoors" "draw") ∈ lw_all := lw_g (lw_at lw_m2 38 rfl) rfl
theorem q428 : (Jvm.Cond.laysFinal "OutwardDoors" "OutwardDoors" "leftTo" "[I") ∈ lw_all := lw_g (lw_at lw_m2 39 rfl) rfl
theorem q429 : (Jvm.Cond.soleField "OutwardDoors" "leftTo") ∈ lw_all := lw_g (lw_at lw_m2 40 rfl) rfl
theorem q430 : (Jvm.Cond.laysFinal "OutwardDoors" "OutwardDoors" "words" "[J") ∈ lw_all := lw_g (lw_at lw_m2 41 rfl) rfl
theorem q431 : (Jvm.Cond.soleField "OutwardDoors" "words") ∈ lw_all := lw_g (lw_at lw_m2 42 rfl) rfl
theorem q432 : (Jvm.Cond.laysFinal "OutwardDoors" "OutwardDoors" "step" "[I") ∈ lw_all := lw_g (lw_at lw_m2 43 rfl) rfl
theorem q433 : (Jvm.Cond.soleField "OutwardDoors" "step") ∈ lw_all := lw_g (lw_at lw_m2 44 rfl) rfl
theorem q434 : (Jvm.Cond.laysFinal "OutwardDoors" "OutwardDoors" "will" "[I") ∈ lw_all := lw_g (lw_at lw_m2 45 rfl) rfl
theorem q435 : (Jvm.Cond.soleField "OutwardDoors" "will") ∈ lw_all := lw_g (lw_at lw_m2 46 rfl) rfl
theorem q436 : (Jvm.Cond.laysFinal "OutwardDoors" "OutwardDoors" "left" "[I") ∈ lw_all := lw_g (lw_at lw_m2 47 rfl) rfl
theorem q437 : (Jvm.Cond.soleField "OutwardDoors" "left") ∈ lw_all := lw_g (lw_at lw_m2 48 rfl) rfl
theorem q438 : (Jvm.Cond.laysFinal "OutwardDoors" "OutwardDoors" "outBy" "[I") ∈ lw_all := lw_g (lw_at lw_m2 49 rfl) rfl
theorem q439 : (Jvm.Cond.soleField "OutwardDoors" "outBy") ∈ lw_all := lw_g (lw_at lw_m2 50 rfl) rfl
theorem q440 : (Jvm.Cond.laysFinal "OutwardDoors" "OutwardDoors" "past" "[LOutwardDoors$State;") ∈ lw_all := lw_g (lw_at lw_m2 51 rfl) rfl
theorem q441 : (Jvm.Cond.soleField "OutwardDoors" "past") ∈ lw_all := lw_g (lw_at lw_m2 52 rfl) rfl
theorem q442 : (Jvm.Cond.lays "OutwardDoors" "OutwardDoors" "pastMany" "I") ∈ lw_all := lw_g (lw_at lw_m2 53 rfl) rfl
theorem q443 : (Jvm.Cond.soleField "OutwardDoors" "pastMany") ∈ lw_all := lw_g (lw_at lw_m2 54 rfl) rfl
theorem q444 : (Jvm.Cond.lays "OutwardDoors" "OutwardDoors" "pastAt" "I") ∈ lw_all := lw_g (lw_at lw_m2 55 rfl) rfl
theorem q445 : (Jvm.Cond.soleField "OutwardDoors" "pastAt") ∈ lw_all := lw_g (lw_at lw_m2 56 rfl) rfl
theorem q446 : (Jvm.Cond.laysFinal "OutwardDoors" "OutwardDoors" "steps" "[I") ∈ lw_all := lw_g (lw_at lw_m2 57 rfl) rfl
theorem q447 : (Jvm.Cond.soleField "OutwardDoors" "steps") ∈ lw_all := lw_g (lw_at lw_m2 58 rfl) rfl
theorem q448 : (Jvm.Cond.laysFinal "OutwardDoors" "OutwardDoors" "from" "[I") ∈ lw_all := lw_g (lw_at lw_m2 59 rfl) rfl
theorem q449 : (Jvm.Cond.soleField "OutwardDoors" "from") ∈ lw_all := lw_g (lw_at lw_m2 60 rfl) rfl
theorem q450 : (Jvm.Cond.laysFinal "OutwardDoors" "OutwardDoors" "passing" "[I") ∈ lw_all := lw_g (lw_at lw_m2 61 rfl) rfl
theorem q451 : (Jvm.Cond.soleField "OutwardDoors" "passing") ∈ lw_all := lw_g (lw_at lw_m2 62 rfl) rfl
theorem q452 : (Jvm.Cond.laysFinal "OutwardDoors" "OutwardDoors" "queue" "[I") ∈ lw_all := lw_g (lw_at lw_m2 63 rfl) rfl
theorem q453 : (Jvm.Cond.soleField "OutwardDoors" "queue") ∈ lw_all := lw_g (lw_at lw_m2 64 rfl) rfl
theorem q454 : (Jvm.Cond.lays "OutwardDoors" "OutwardDoors" "queued" "I") ∈ lw_all := lw_g (lw_at lw_m2 65 rfl) rfl
theorem q455 : (Jvm.Cond.soleField "OutwardDoors" "queued") ∈ lw_all := lw_g (lw_at lw_m2 66 rfl) rfl
theorem q456 : (Jvm.Cond.lays "OutwardDoors" "OutwardDoors" "turnedDoor" "I") ∈ lw_all := lw_g (lw_at lw_m2 67 rfl) rfl
theorem q457 : (Jvm.Cond.soleField "OutwardDoors" "turnedDoor") ∈ lw_all := lw_g (lw_at lw_m2 68 rfl) rfl
theorem q458 : (Jvm.Cond.laysFinal "OutwardDoors" "OutwardDoors" "paid" "[I") ∈ lw_all := lw_g (lw_at lw_m2 69 rfl) rfl
theorem q459 : (Jvm.Cond.soleField "OutwardDoors" "paid") ∈ lw_all := lw_g (lw_at lw_m2 70 rfl) rfl
theorem q460 : (Jvm.Cond.laysFinal "OutwardDoors" "OutwardDoors" "isDone" "[Z") ∈ lw_all := lw_g (lw_at lw_m2 71 rfl) rfl
theorem q461 : (Jvm.Cond.soleField "OutwardDoors" "isDone") ∈ lw_all := lw_g (lw_at lw_m2 72 rfl) rfl
theorem q462 : (Jvm.Cond.laysFinal "OutwardDoors" "OutwardDoors" "rooms" "[I") ∈ lw_all := lw_g (lw_at lw_m2 73 rfl) rfl
theorem q463 : (Jvm.Cond.soleField "OutwardDoors" "rooms") ∈ lw_all := lw_g (lw_at lw_m2 74 rfl) rfl
theorem q464 : (Jvm.Cond.laysFinal "OutwardDoors" "OutwardDoors" "images" "[LOutwardDoors$Image;") ∈ lw_all := lw_g (lw_at lw_m2 75 rfl) rfl
theorem q465 : (Jvm.Cond.soleField "OutwardDoors" "images") ∈ lw_all := lw_g (lw_at lw_m2 76 rfl) rfl
theorem q466 : (Jvm.Cond.superclass "OutwardDoors" "java/lang/Object") ∈ lw_all := lw_g (lw_at lw_m2 77 rfl) rfl
theorem q471 : (Jvm.Cond.instanceMethod ({ cls := "OutwardDoors", name := "feed", desc := "(IIIII)I" } : Jvm.MethodName)) ∈ lw_all := lw_g (lw_at lw_m2 82 rfl) rfl
theorem q472 : (Jvm.Cond.selects "OutwardDoors" ({ cls := "OutwardDoors", name := "feed", desc := "(IIIII)I" } : Jvm.MethodName) ({ cls := "OutwardDoors", name := "feed", desc := "(IIIII)I" } : Jvm.MethodName)) ∈ lw_all := lw_g (lw_at lw_m2 83 rfl) rfl
theorem q473 : (Jvm.Cond.code ({ cls := "OutwardDoors", name := "feed", desc := "(IIIII)I" } : Jvm.MethodName) prog_1_method_11_code (6 : Nat) (Option.some Jvm.ClassFile.FieldType.int)) ∈ lw_all := lw_g (lw_at lw_m2 84 rfl) rfl
theorem q474 : (Jvm.Cond.methodLink "OutwardDoors" (149 : Nat) ({ cls := "OutwardDoors", name := "put", desc := "(I)V" } : Jvm.MethodName)) ∈ lw_all := lw_g (lw_at lw_m2 85 rfl) rfl
theorem q475 : (Jvm.Cond.privateMethod ({ cls := "OutwardDoors", name := "put", desc := "(I)V" } : Jvm.MethodName)) ∈ lw_tbl := lw_at lw_m2 86 rfl
theorem q476 : (Jvm.Cond.instanceMethod ({ cls := "OutwardDoors", name := "put", desc := "(I)V" } : Jvm.MethodName)) ∈ lw_all := lw_g (lw_at lw_m2 87 rfl) rfl
theorem q477 : (Jvm.Cond.code ({ cls := "OutwardDoors", name := "put", desc := "(I)V" } : Jvm.MethodName) prog_1_method_12_code (3 : Nat) (Option.none : Option Jvm.ClassFile.FieldType)) ∈ lw_all := lw_g (lw_at lw_m2 88 rfl) rfl
theorem q479 : (Jvm.Cond.instanceMethod ({ cls := "OutwardDoors", name := "end", desc := "(I)I" } : Jvm.MethodName)) ∈ lw_all := lw_g (lw_at lw_m2 90 rfl) rfl
theorem q480 : (Jvm.Cond.selects "OutwardDoors" ({ cls := "OutwardDoors", name := "end", desc := "(I)I" } : Jvm.MethodName) ({ cls := "OutwardDoors", name := "end", desc := "(I)I" } : Jvm.MethodName)) ∈ lw_all := lw_g (lw_at lw_m2 91 rfl) rfl
theorem q481 : (Jvm.Cond.code ({ cls := "OutwardDoors", name := "end", desc := "(I)I" } : Jvm.MethodName) prog_1_method_13_code (2 : Nat) (Option.some Jvm.ClassFile.FieldType.int)) ∈ lw_all := lw_g (lw_at lw_m2 92 rfl) rfl
theorem q483 : (Jvm.Cond.instanceMethod ({ cls := "OutwardDoors", name := "castle", desc := "()I" } : Jvm.MethodName)) ∈ lw_all := lw_g (lw_at lw_m2 94 rfl) rfl
theorem q484 : (Jvm.Cond.selects "OutwardDoors" ({ cls := "OutwardDoors", name := "castle", desc := "()I" } : Jvm.MethodName) ({ cls := "OutwardDoors", name := "castle", desc := "()I" } : Jvm.MethodName)) ∈ lw_all := lw_g (lw_at lw_m2 95 rfl) rfl
theorem q485 : (Jvm.Cond.codeWith ({ cls := "OutwardDoors", name := "castle", desc := "()I" } : Jvm.MethodName) prog_1_method_14_code (4 : Nat) (Option.some Jvm.ClassFile.FieldType.int) [((0 : Nat), (49 : Nat), (56 : Nat), (39 : Nat)), ((0 : Nat), (49 : Nat), (72 : Nat), (0 : Nat)), ((56 : Nat), (65 : Nat), (72 : Nat), (0 : Nat))]) ∈ lw_all := lw_g (lw_at lw_m2 96 rfl) rfl
theorem q486 : (Jvm.Cond.classLink "OutwardDoors" (152 : Nat) "OutwardDoors$Parser") ∈ lw_all := lw_g (lw_at lw_m2 97 rfl) rfl
theorem q488 : (Jvm.Cond.methodLink "OutwardDoors" (154 : Nat) ({ cls := "OutwardDoors$Parser", name := "<init>", desc := "(LOutwardDoors;[Ljava/lang/String;I)V" } : Jvm.MethodName)) ∈ lw_all := lw_g (lw_at lw_m2 99 rfl) rfl
theorem q514 : (Jvm.Cond.methodLink "OutwardDoors" (157 : Nat) ({ cls := "OutwardDoors$Parser", name := "castle", desc := "()LOutwardDoors$Castle;" } : Jvm.MethodName)) ∈ lw_all := lw_g (lw_at lw_m2 125 rfl) rfl
theorem q548 : (Jvm.Cond.static ({ cls := "OutwardDoors", name := "in", desc := "(JJJ)Z" } : Jvm.MethodName)) ∈ lw_all := lw_g (lw_at lw_m2 159 rfl) rfl
theorem q549 : (Jvm.Cond.code ({ cls := "OutwardDoors", name := "in", desc := "(JJJ)Z" } : Jvm.MethodName) prog_1_method_1_code (6 : Nat) (Option.some Jvm.ClassFile.FieldType.boolean)) ∈ lw_all := lw_g (lw_at lw_m2 160 rfl) rfl
theorem q599 : (Jvm.Cond.privateMethod ({ cls := "OutwardDoors", name := "fails", desc := "(II)LOutwardDoors$Wrong;" } : Jvm.MethodName)) ∈ lw_tbl := lw_at lw_m2 210 rfl
theorem q600 : (Jvm.Cond.instanceMethod ({ cls := "OutwardDoors", name := "fails", desc := "(II)LOutwardDoors$Wrong;" } : Jvm.MethodName)) ∈ lw_all := lw_g (lw_at lw_m2 211 rfl) rfl
theorem q601 : (Jvm.Cond.code ({ cls := "OutwardDoors", name := "fails", desc := "(II)LOutwardDoors$Wrong;" } : Jvm.MethodName) prog_1_method_10_code (3 : Nat) (Option.some (Jvm.ClassFile.FieldType.object "OutwardDoors$Wrong"))) ∈ lw_all := lw_g (lw_at lw_m2 212 rfl) rfl
theorem q659 : (Jvm.Cond.fieldLinkNest "OutwardDoors" (262 : Nat) "OutwardDoors$Door" "isWindow" "Z" "OutwardDoors") ∈ lw_tbl := lw_at lw_m3 30 rfl
theorem q701 : (Jvm.Cond.selects "OutwardDoors" ({ cls := "java/lang/Object", name := "getClass", desc := "()Ljava/lang/Class;" } : Jvm.MethodName) ({ cls := "java/lang/Object", name := "getClass", desc := "()Ljava/lang/Class;" } : Jvm.MethodName)) ∈ lw_all := lw_g (lw_at lw_m3 72 rfl) rfl
theorem q758 : (Jvm.Cond.fieldLinkNest "OutwardDoors" (229 : Nat) "OutwardDoors$Person" "pay" "I" "OutwardDoors") ∈ lw_tbl := lw_at lw_m3 129 rfl
theorem q770 : (Jvm.Cond.methodLink "OutwardDoors" (160 : Nat) ({ cls := "OutwardDoors$State", name := "begin", desc := "(LOutwardDoors$Castle;)V" } : Jvm.MethodName)) ∈ lw_all := lw_g (lw_at lw_m3 141 rfl) rfl
theorem q777 : (Jvm.Cond.methodLink "OutwardDoors" (125 : Nat) ({ cls := "OutwardDoors$Castle", name := "many", desc := "()I" } : Jvm.MethodName)) ∈ lw_all := lw_g (lw_at lw_m3 148 rfl) rfl
theorem q779 : (Jvm.Cond.instanceMethod ({ cls := "OutwardDoors", name := "rule", desc := "()I" } : Jvm.MethodName)) ∈ lw_all := lw_g (lw_at lw_m3 150 rfl) rfl
theorem q780 : (Jvm.Cond.selects "OutwardDoors" ({ cls := "OutwardDoors", name := "rule", desc := "()I" } : Jvm.MethodName) ({ cls := "OutwardDoors", name := "rule", desc := "()I" } : Jvm.MethodName)) ∈ lw_all := lw_g (lw_at lw_m3 151 rfl) rfl
theorem q781 : (Jvm.Cond.codeWith ({ cls := "OutwardDoors", name := "rule", desc := "()I" } : Jvm.MethodName) prog_1_method_15_code (4 : Nat) (Option.some Jvm.ClassFile.FieldType.int) [((14 : Nat), (31 : Nat), (38 : Nat), (39 : Nat)), ((14 : Nat), (31 : Nat), (54 : Nat), (0 : Nat)), ((38 : Nat), (47 : Nat), (54 : Nat), (0 : Nat))]) ∈ lw_all := lw_g (lw_at lw_m3 152 rfl) rfl
theorem q782 : (Jvm.Cond.methodLink "OutwardDoors" (136 : Nat) ({ cls := "java/util/ArrayList", name := "size", desc := "()I" } : Jvm.MethodName)) ∈ lw_all := lw_g (lw_at lw_m3 153 rfl) rfl
theorem q783 : (Jvm.Cond.methodLink "OutwardDoors" (170 : Nat) ({ cls := "OutwardDoors$Parser", name := "rule", desc := "()I" } : Jvm.MethodName)) ∈ lw_all := lw_g (lw_at lw_m3 154 rfl) rfl
theorem q948 : (Jvm.Cond.instanceMethod ({ cls := "OutwardDoors", name := "force", desc := "(I)I" } : Jvm.MethodName)) ∈ lw_all := lw_g (lw_at lw_m4 79 rfl) rfl
theorem q949 : (Jvm.Cond.selects "OutwardDoors" ({ cls := "OutwardDoors", name := "force", desc := "(I)I" } : Jvm.MethodName) ({ cls := "OutwardDoors", name := "force", desc := "(I)I" } : Jvm.MethodName)) ∈ lw_all := lw_g (lw_at lw_m4 80 rfl) rfl
theorem q950 : (Jvm.Cond.code ({ cls := "OutwardDoors", name := "force", desc := "(I)I" } : Jvm.MethodName) prog_1_method_16_code (3 : Nat) (Option.some Jvm.ClassFile.FieldType.int)) ∈ lw_all := lw_g (lw_at lw_m4 81 rfl) rfl
theorem q951 : (Jvm.Cond.constantLong "OutwardDoors" (173 : Nat) (-1 : Int64)) ∈ lw_all := lw_g (lw_at lw_m4 82 rfl) rfl
theorem q952 : (Jvm.Cond.methodLink "OutwardDoors" (129 : Nat) ({ cls := "OutwardDoors", name := "in", desc := "(JJJ)Z" } : Jvm.MethodName)) ∈ lw_all := lw_g (lw_at lw_m4 83 rfl) rfl
theorem q954 : (Jvm.Cond.instanceMethod ({ cls := "OutwardDoors", name := "person", desc := "(II)I" } : Jvm.MethodName)) ∈ lw_all := lw_g (lw_at lw_m4 85 rfl) rfl
theorem q955 : (Jvm.Cond.selects "OutwardDoors" ({ cls := "OutwardDoors", name := "person", desc := "(II)I" } : Jvm.MethodName) ({ cls := "OutwardDoors", name := "person", desc := "(II)I" } : Jvm.MethodName)) ∈ lw_all := lw_g (lw_at lw_m4 86 rfl) rfl
theorem q956 : (Jvm.Cond.code ({ cls := "OutwardDoors", name := "person", desc := "(II)I" } : Jvm.MethodName) prog_1_method_22_code (3 : Nat) (Option.some Jvm.ClassFile.FieldType.int)) ∈ lw_all := lw_g (lw_at lw_m4 87 rfl) rfl
theorem q957 : (Jvm.Cond.methodLink "OutwardDoors" (216 : Nat) ({ cls := "OutwardDoors", name := "isPerson", desc := "(I)Z" } : Jvm.MethodName)) ∈ lw_all := lw_g (lw_at lw_m4 88 rfl) rfl
theorem q958 : (Jvm.Cond.privateMethod ({ cls := "OutwardDoors", name := "isPerson", desc := "(I)Z" } : Jvm.MethodName)) ∈ lw_tbl := lw_at lw_m4 89 rfl
theorem q959 : (Jvm.Cond.instanceMethod ({ cls := "OutwardDoors", name := "isPerson", desc := "(I)Z" } : Jvm.MethodName)) ∈ lw_all := lw_g (lw_at lw_m4 90 rfl) rfl
theorem q960 : (Jvm.Cond.code ({ cls := "OutwardDoors", name := "isPerson", desc := "(I)Z" } : Jvm.MethodName) prog_1_method_6_code (2 : Nat) (Option.some Jvm.ClassFile.FieldType.boolean)) ∈ lw_all := lw_g (lw_at lw_m4 91 rfl) rfl
theorem q961 : (Jvm.Cond.methodLink "OutwardDoors" (223 : Nat) ({ cls := "java/util/ArrayList", name := "get", desc := "(I)Ljava/lang/Object;" } : Jvm.MethodName)) ∈ lw_all := lw_g (lw_at lw_m4 92 rfl) rfl
theorem q962 : (Jvm.Cond.classLink "OutwardDoors" (227 : Nat) "OutwardDoors$Person") ∈ lw_all := lw_g (lw_at lw_m4 93 rfl) rfl
theorem q963 : (Jvm.Cond.methodLink "OutwardDoors" (205 : Nat) ({ cls := "OutwardDoors", name := "leftFrom", desc := "(LOutwardDoors$State;II)I" } : Jvm.MethodName)) ∈ lw_all := lw_g (lw_at lw_m4 94 rfl) rfl
theorem q964 : (Jvm.Cond.privateMethod ({ cls := "OutwardDoors", name := "leftFrom", desc := "(LOutwardDoors$State;II)I" } : Jvm.MethodName)) ∈ lw_tbl := lw_at lw_m4 95 rfl
theorem q965 : (Jvm.Cond.instanceMethod ({ cls := "OutwardDoors", name := "leftFrom", desc := "(LOutwardDoors$State;II)I" } : Jvm.MethodName)) ∈ lw_all := lw_g (lw_at lw_m4 96 rfl) rfl
theorem q966 : (Jvm.Cond.code ({ cls := "OutwardDoors", name := "leftFrom", desc := "(LOutwardDoors$State;II)I" } : Jvm.MethodName) prog_1_method_18_code (4 : Nat) (Option.some Jvm.ClassFile.FieldType.int)) ∈ lw_all := lw_g (lw_at lw_m4 97 rfl) rfl
theorem q967 : (Jvm.Cond.methodLink "OutwardDoors" (198 : Nat) ({ cls := "OutwardDoors", name := "laysLeft", desc := "(II)V" } : Jvm.MethodName)) ∈ lw_all := lw_g (lw_at lw_m4 98 rfl) rfl
theorem q968 : (Jvm.Cond.privateMethod ({ cls := "OutwardDoors", name := "laysLeft", desc := "(II)V" } : Jvm.MethodName)) ∈ lw_tbl := lw_at lw_m4 99 rfl
theorem q969 : (Jvm.Cond.instanceMethod ({ cls := "OutwardDoors", name := "laysLeft", desc := "(II)V" } : Jvm.MethodName)) ∈ lw_all := lw_g (lw_at lw_m4 100 rfl) rfl
theorem q970 : (Jvm.Cond.code ({ cls := "OutwardDoors", name := "laysLeft", desc := "(II)V" } : Jvm.MethodName) prog_1_method_17_code (8 : Nat) (Option.none : Option Jvm.ClassFile.FieldType)) ∈ lw_all := lw_g (lw_at lw_m4 101 rfl) rfl
theorem q971 : (Jvm.Cond.methodLink "OutwardDoors" (175 : Nat) ({ cls := "OutwardDoors$Castle", name := "isOpen", desc := "(II)Z" } : Jvm.MethodName)) ∈ lw_all := lw_g (lw_at lw_m4 102 rfl) rfl
theorem q980 : (Jvm.Cond.methodLink "OutwardDoors" (179 : Nat) ({ cls := "OutwardDoors$Castle", name := "inner", desc := "(I)I" } : Jvm.MethodName)) ∈ lw_all := lw_g (lw_at lw_m4 111 rfl) rfl
theorem q985 : (Jvm.Cond.methodLink "OutwardDoors" (183 : Nat) ({ cls := "OutwardDoors$Castle", name := "outer", desc := "(I)I" } : Jvm.MethodName)) ∈ lw_all := lw_g (lw_at lw_m4 116 rfl) rfl
theorem q990 : (Jvm.Cond.methodLink "OutwardDoors" (186 : Nat) ({ cls := "java/lang/Math", name := "min", desc := "(II)I" } : Jvm.MethodName)) ∈ lw_all := lw_g (lw_at lw_m4 121 rfl) rfl
theorem q991 : (Jvm.Cond.methodLink "OutwardDoors" (232 : Nat) ({ cls := "OutwardDoors", name := "stepOf", desc := "(LOutwardDoors$State;I)I" } : Jvm.MethodName)) ∈ lw_all := lw_g (lw_at lw_m4 122 rfl) rfl
theorem q992 : (Jvm.Cond.privateMethod ({ cls := "OutwardDoors", name := "stepOf", desc := "(LOutwardDoors$State;I)I" } : Jvm.MethodName)) ∈ lw_tbl := lw_at lw_m4 123 rfl
theorem q993 : (Jvm.Cond.instanceMethod ({ cls := "OutwardDoors", name := "stepOf", desc := "(LOutwardDoors$State;I)I" } : Jvm.MethodName)) ∈ lw_all := lw_g (lw_at lw_m4 124 rfl) rfl
theorem q994 : (Jvm.Cond.code ({ cls := "OutwardDoors", name := "stepOf", desc := "(LOutwardDoors$State;I)I" } : Jvm.MethodName) prog_1_method_19_code (5 : Nat) (Option.some Jvm.ClassFile.FieldType.int)) ∈ lw_all := lw_g (lw_at lw_m4 125 rfl) rfl
theorem q995 : (Jvm.Cond.methodLink "OutwardDoors" (209 : Nat) ({ cls := "OutwardDoors$Castle", name := "between", desc := "(III)I" } : Jvm.MethodName)) ∈ lw_all := lw_g (lw_at lw_m4 126 rfl) rfl
theorem q1001 : (Jvm.Cond.instanceMethod ({ cls := "OutwardDoors", name := "room", desc := "(II)I" } : Jvm.MethodName)) ∈ lw_all := lw_g (lw_at lw_m4 132 rfl) rfl
theorem q1002 : (Jvm.Cond.selects "OutwardDoors" ({ cls := "OutwardDoors", name := "room", desc := "(II)I" } : Jvm.MethodName) ({ cls := "OutwardDoors", name := "room", desc := "(II)I" } : Jvm.MethodName)) ∈ lw_all := lw_g (lw_at lw_m4 133 rfl) rfl
theorem q1003 : (Jvm.Cond.code ({ cls := "OutwardDoors", name := "room", desc := "(II)I" } : Jvm.MethodName) prog_1_method_23_code (3 : Nat) (Option.some Jvm.ClassFile.FieldType.int)) ∈ lw_all := lw_g (lw_at lw_m4 134 rfl) rfl
theorem q1004 : (Jvm.Cond.methodLink "OutwardDoors" (245 : Nat) ({ cls := "OutwardDoors", name := "isRoom", desc := "(I)Z" } : Jvm.MethodName)) ∈ lw_all := lw_g (lw_at lw_m4 135 rfl) rfl
theorem q1005 : (Jvm.Cond.privateMethod ({ cls := "OutwardDoors", name := "isRoom", desc := "(I)Z" } : Jvm.MethodName)) ∈ lw_tbl := lw_at lw_m4 136 rfl
theorem q1006 : (Jvm.Cond.instanceMethod ({ cls := "OutwardDoors", name := "isRoom", desc := "(I)Z" } : Jvm.MethodName)) ∈ lw_all := lw_g (lw_at lw_m4 137 rfl) rfl
theorem q1007 : (Jvm.Cond.code ({ cls := "OutwardDoors", name := "isRoom", desc := "(I)Z" } : Jvm.MethodName) prog_1_method_7_code (2 : Nat) (Option.some Jvm.ClassFile.FieldType.boolean)) ∈ lw_all := lw_g (lw_at lw_m4 138 rfl) rfl
theorem q1008 : (Jvm.Cond.methodLink "OutwardDoors" (251 : Nat) ({ cls := "OutwardDoors", name := "whoIn", desc := "(I)I" } : Jvm.MethodName)) ∈ lw_all := lw_g (lw_at lw_m4 139 rfl) rfl
theorem q1009 : (Jvm.Cond.privateMethod ({ cls := "OutwardDoors", name := "whoIn", desc := "(I)I" } : Jvm.MethodName)) ∈ lw_tbl := lw_at lw_m4 140 rfl
theorem q1010 : (Jvm.Cond.instanceMethod ({ cls := "OutwardDoors", name := "whoIn", desc := "(I)I" } : Jvm.MethodName)) ∈ lw_all := lw_g (lw_at lw_m4 141 rfl) rfl
theorem q1011 : (Jvm.Cond.code ({ cls := "OutwardDoors", name := "whoIn", desc := "(I)I" } : Jvm.MethodName) prog_1_method_20_code (4 : Nat) (Option.some Jvm.ClassFile.FieldType.int)) ∈ lw_all := lw_g (lw_at lw_m4 142 rfl) rfl
theorem q1012 : (Jvm.Cond.methodLink "OutwardDoors" (254 : Nat) ({ cls := "OutwardDoors", name := "outsideOf", desc := "(I)I" } : Jvm.MethodName)) ∈ lw_all := lw_g (lw_at lw_m4 143 rfl) rfl
theorem q1013 : (Jvm.Cond.privateMethod ({ cls := "OutwardDoors", name := "outsideOf", desc := "(I)I" } : Jvm.MethodName)) ∈ lw_tbl := lw_at lw_m4 144 rfl
theorem q1014 : (Jvm.Cond.instanceMethod ({ cls := "OutwardDoors", name := "outsideOf", desc := "(I)I" } : Jvm.MethodName)) ∈ lw_all := lw_g (lw_at lw_m4 145 rfl) rfl
theorem q1015 : (Jvm.Cond.code ({ cls := "OutwardDoors", name := "outsideOf", desc := "(I)I" } : Jvm.MethodName) prog_1_method_21_code (6 : Nat) (Option.some Jvm.ClassFile.FieldType.int)) ∈ lw_all := lw_g (lw_at lw_m4 146 rfl) rfl
theorem q1016 : (Jvm.Cond.methodLink "OutwardDoors" (213 : Nat) ({ cls := "OutwardDoors", name := "has", desc := "(II)Z" } : Jvm.MethodName)) ∈ lw_all := lw_g (lw_at lw_m4 147 rfl) rfl
theorem q1017 : (Jvm.Cond.static ({ cls := "OutwardDoors", name := "has", desc := "(II)Z" } : Jvm.MethodName)) ∈ lw_all := lw_g (lw_at lw_m4 148 rfl) rfl
theorem q1018 : (Jvm.Cond.code ({ cls := "OutwardDoors", name := "has", desc := "(II)Z" } : Jvm.MethodName) prog_1_method_2_code (2 : Nat) (Option.some Jvm.ClassFile.FieldType.boolean)) ∈ lw_all := lw_g (lw_at lw_m4 149 rfl) rfl
theorem q1020 : (Jvm.Cond.instanceMethod ({ cls := "OutwardDoors", name := "door", desc := "(II)I" } : Jvm.MethodName)) ∈ lw_all := lw_g (lw_at lw_m4 151 rfl) rfl
theorem q1021 : (Jvm.Cond.selects "OutwardDoors" ({ cls := "OutwardDoors", name := "door", desc := "(II)I" } : Jvm.MethodName) ({ cls := "OutwardDoors", name := "door", desc := "(II)I" } : Jvm.MethodName)) ∈ lw_all := lw_g (lw_at lw_m4 152 rfl) rfl
theorem q1022 : (Jvm.Cond.code ({ cls := "OutwardDoors", name := "door", desc := "(II)I" } : Jvm.MethodName) prog_1_method_24_code (3 : Nat) (Option.some Jvm.ClassFile.FieldType.int)) ∈ lw_all := lw_g (lw_at lw_m4 153 rfl) rfl
theorem q1023 : (Jvm.Cond.methodLink "OutwardDoors" (257 : Nat) ({ cls := "OutwardDoors", name := "isDoor", desc := "(I)Z" } : Jvm.MethodName)) ∈ lw_all := lw_g (lw_at lw_m4 154 rfl) rfl
theorem q1024 : (Jvm.Cond.privateMethod ({ cls := "OutwardDoors", name := "isDoor", desc := "(I)Z" } : Jvm.MethodName)) ∈ lw_tbl := lw_at lw_m4 155 rfl
theorem q1025 : (Jvm.Cond.instanceMethod ({ cls := "OutwardDoors", name := "isDoor", desc := "(I)Z" } : Jvm.MethodName)) ∈ lw_all := lw_g (lw_at lw_m4 156 rfl) rfl
theorem q1026 : (Jvm.Cond.code ({ cls := "OutwardDoors", name := "isDoor", desc := "(I)Z" } : Jvm.MethodName) prog_1_method_8_code (2 : Nat) (Option.some Jvm.ClassFile.FieldType.boolean)) ∈ lw_all := lw_g (lw_at lw_m4 157 rfl) rfl
theorem q1027 : (Jvm.Cond.classLink "OutwardDoors" (260 : Nat) "OutwardDoors$Door") ∈ lw_all := lw_g (lw_at lw_m4 158 rfl) rfl
theorem q1028 : (Jvm.Cond.methodLink "OutwardDoors" (266 : Nat) ({ cls := "OutwardDoors", name := "bit", desc := "(Z)I" } : Jvm.MethodName)) ∈ lw_all := lw_g (lw_at lw_m4 159 rfl) rfl
theorem q1029 : (Jvm.Cond.static ({ cls := "OutwardDoors", name := "bit", desc := "(Z)I" } : Jvm.MethodName)) ∈ lw_all := lw_g (lw_at lw_m4 160 rfl) rfl
theorem q1030 : (Jvm.Cond.code ({ cls := "OutwardDoors", name := "bit", desc := "(Z)I" } : Jvm.MethodName) prog_1_method_3_code (1 : Nat) (Option.some Jvm.ClassFile.FieldType.int)) ∈ lw_all := lw_g (lw_at lw_m4 161 rfl) rfl
theorem q1032 : (Jvm.Cond.instanceMethod ({ cls := "OutwardDoors", name := "undo", desc := "()I" } : Jvm.MethodName)) ∈ lw_all := lw_g (lw_at lw_m4 163 rfl) rfl
theorem q1033 : (Jvm.Cond.selects "OutwardDoors" ({ cls := "OutwardDoors", name := "undo", desc := "()I" } : Jvm.MethodName) ({ cls := "OutwardDoors", name := "undo", desc := "()I" } : Jvm.MethodName)) ∈ lw_all := lw_g (lw_at lw_m4 164 rfl) rfl
theorem q1034 : (Jvm.Cond.code ({ cls := "OutwardDoors", name := "undo", desc := "()I" } : Jvm.MethodName) prog_1_method_33_code (1 : Nat) (Option.some Jvm.ClassFile.FieldType.int)) ∈ lw_all := lw_g (lw_at lw_m4 165 rfl) rfl
theorem q1035 : (Jvm.Cond.methodLink "OutwardDoors" (309 : Nat) ({ cls := "OutwardDoors$State", name := "copyFrom", desc := "(LOutwardDoors$State;)V" } : Jvm.MethodName)) ∈ lw_all := lw_g (lw_at lw_m4 166 rfl) rfl
theorem q1040 : (Jvm.Cond.instanceMethod ({ cls := "OutwardDoors", name := "moment", desc := "()I" } : Jvm.MethodName)) ∈ lw_all := lw_g (lw_at lw_m4 171 rfl) rfl
theorem q1041 : (Jvm.Cond.selects "OutwardDoors" ({ cls := "OutwardDoors", name := "moment", desc := "()I" } : Jvm.MethodName) ({ cls := "OutwardDoors", name := "moment", desc := "()I" } : Jvm.MethodName)) ∈ lw_all := lw_g (lw_at lw_m4 172 rfl) rfl
theorem q1042 : (Jvm.Cond.code ({ cls := "OutwardDoors", name := "moment", desc := "()I" } : Jvm.MethodName) prog_1_method_34_code (1 : Nat) (Option.some Jvm.ClassFile.FieldType.int)) ∈ lw_all := lw_g (lw_at lw_m4 173 rfl) rfl
theorem q1043 : (Jvm.Cond.methodLink "OutwardDoors" (139 : Nat) ({ cls := "OutwardDoors", name := "isCastle", desc := "()Z" } : Jvm.MethodName)) ∈ lw_all := lw_g (lw_at lw_m4 174 rfl) rfl
theorem q1044 : (Jvm.Cond.privateMethod ({ cls := "OutwardDoors", name := "isCastle", desc := "()Z" } : Jvm.MethodName)) ∈ lw_tbl := lw_at lw_m4 175 rfl
theorem q1045 : (Jvm.Cond.instanceMethod ({ cls := "OutwardDoors", name := "isCastle", desc := "()Z" } : Jvm.MethodName)) ∈ lw_all := lw_g (lw_at lw_m4 176 rfl) rfl
theorem q1046 : (Jvm.Cond.code ({ cls := "OutwardDoors", name := "isCastle", desc := "()Z" } : Jvm.MethodName) prog_1_method_5_code (1 : Nat) (Option.some Jvm.ClassFile.FieldType.boolean)) ∈ lw_all := lw_g (lw_at lw_m4 177 rfl) rfl
theorem q1047 : (Jvm.Cond.methodLink "OutwardDoors" (312 : Nat) ({ cls := "OutwardDoors", name := "keeps", desc := "()V" } : Jvm.MethodName)) ∈ lw_all := lw_g (lw_at lw_m4 178 rfl) rfl
theorem q1048 : (Jvm.Cond.privateMethod ({ cls := "OutwardDoors", name := "keeps", desc := "()V" } : Jvm.MethodName)) ∈ lw_tbl := lw_at lw_m4 179 rfl
theorem q1049 : (Jvm.Cond.instanceMethod ({ cls := "OutwardDoors", name := "keeps", desc := "()V" } : Jvm.MethodName)) ∈ lw_all := lw_g (lw_at lw_m4 180 rfl) rfl
theorem q1050 : (Jvm.Cond.code ({ cls := "OutwardDoors", name := "keeps", desc := "()V" } : Jvm.MethodName) prog_1_method_32_code (1 : Nat) (Option.none : Option Jvm.ClassFile.FieldType)) ∈ lw_all := lw_g (lw_at lw_m4 181 rfl) rfl
theorem q1051 : (Jvm.Cond.methodLink "OutwardDoors" (315 : Nat) ({ cls := "OutwardDoors", name := "goesOn", desc := "(LOutwardDoors$State;)I" } : Jvm.MethodName)) ∈ lw_all := lw_g (lw_at lw_m4 182 rfl) rfl
theorem q1052 : (Jvm.Cond.privateMethod ({ cls := "OutwardDoors", name := "goesOn", desc := "(LOutwardDoors$State;)I" } : Jvm.MethodName)) ∈ lw_tbl := lw_at lw_m4 183 rfl
theorem q1053 : (Jvm.Cond.instanceMethod ({ cls := "OutwardDoors", name := "goesOn", desc := "(LOutwardDoors$State;)I" } : Jvm.MethodName)) ∈ lw_all := lw_g (lw_at lw_m4 184 rfl) rfl
theorem q1054 : (Jvm.Cond.code ({ cls := "OutwardDoors", name := "goesOn", desc := "(LOutwardDoors$State;)I" } : Jvm.MethodName) prog_1_method_30_code (5 : Nat) (Option.some Jvm.ClassFile.FieldType.int)) ∈ lw_all := lw_g (lw_at lw_m4 185 rfl) rfl
theorem q1055 : (Jvm.Cond.methodLink "OutwardDoors" (296 : Nat) ({ cls := "OutwardDoors", name := "wills", desc := "(LOutwardDoors$State;)V" } : Jvm.MethodName)) ∈ lw_all := lw_g (lw_at lw_m4 186 rfl) rfl
theorem q1056 : (Jvm.Cond.privateMethod ({ cls := "OutwardDoors", name := "wills", desc := "(LOutwardDoors$State;)V" } : Jvm.MethodName)) ∈ lw_tbl := lw_at lw_m4 187 rfl
theorem q1057 : (Jvm.Cond.instanceMethod ({ cls := "OutwardDoors", name := "wills", desc := "(LOutwardDoors$State;)V" } : Jvm.MethodName)) ∈ lw_all := lw_g (lw_at lw_m4 188 rfl) rfl
theorem q1058 : (Jvm.Cond.code ({ cls := "OutwardDoors", name := "wills", desc := "(LOutwardDoors$State;)V" } : Jvm.MethodName) prog_1_method_27_code (3 : Nat) (Option.none : Option Jvm.ClassFile.FieldType)) ∈ lw_all := lw_g (lw_at lw_m4 189 rfl) rfl
theorem q1059 : (Jvm.Cond.methodLink "OutwardDoors" (286 : Nat) ({ cls := "OutwardDoors", name := "willOf", desc := "(LOutwardDoors$State;I)I" } : Jvm.MethodName)) ∈ lw_all := lw_g (lw_at lw_m4 190 rfl) rfl
theorem q1060 : (Jvm.Cond.privateMethod ({ cls := "OutwardDoors", name := "willOf", desc := "(LOutwardDoors$State;I)I" } : Jvm.MethodName)) ∈ lw_tbl := lw_at lw_m4 191 rfl
theorem q1061 : (Jvm.Cond.instanceMethod ({ cls := "OutwardDoors", name := "willOf", desc := "(LOutwardDoors$State;I)I" } : Jvm.MethodName)) ∈ lw_all := lw_g (lw_at lw_m4 192 rfl) rfl
theorem q1062 : (Jvm.Cond.code ({ cls := "OutwardDoors", name := "willOf", desc := "(LOutwardDoors$State;I)I" } : Jvm.MethodName) prog_1_method_26_code (4 : Nat) (Option.some Jvm.ClassFile.FieldType.int)) ∈ lw_all := lw_g (lw_at lw_m4 193 rfl) rfl
theorem q1063 : (Jvm.Cond.methodLink "OutwardDoors" (273 : Nat) ({ cls := "OutwardDoors", name := "asks", desc := "(LOutwardDoors$State;I)V" } : Jvm.MethodName)) ∈ lw_all := lw_g (lw_at lw_m4 194 rfl) rfl
theorem q1064 : (Jvm.Cond.privateMethod ({ cls := "OutwardDoors", name := "asks", desc := "(LOutwardDoors$State;I)V" } : Jvm.MethodName)) ∈ lw_tbl := lw_at lw_m4 195 rfl
theorem q1065 : (Jvm.Cond.instanceMethod ({ cls := "OutwardDoors", name := "asks", desc := "(LOutwardDoors$State;I)V" } : Jvm.MethodName)) ∈ lw_all := lw_g (lw_at lw_m4 196 rfl) rfl
theorem q1066 : (Jvm.Cond.code ({ cls := "OutwardDoors", name := "asks", desc := "(LOutwardDoors$State;I)V" } : Jvm.MethodName) prog_1_method_25_code (6 : Nat) (Option.none : Option Jvm.ClassFile.FieldType)) ∈ lw_all := lw_g (lw_at lw_m4 197 rfl) rfl
theorem q1067 : (Jvm.Cond.methodLink "OutwardDoors" (270 : Nat) ({ cls := "OutwardDoors$Castle", name := "isNight", desc := "(I)Z" } : Jvm.MethodName)) ∈ lw_all := lw_g (lw_at lw_m4 198 rfl) rfl
theorem q1068 : (Jvm.Cond.classLink "OutwardDoors" (277 : Nat) "OutwardDoors$Rule") ∈ lw_all := lw_g (lw_at lw_m4 199 rfl) rfl
theorem q1069 : (Jvm.Cond.methodLink "OutwardDoors" (279 : Nat) ({ cls := "OutwardDoors$Rule", name := "goes", desc := "([J)I" } : Jvm.MethodName)) ∈ lw_all := lw_g (lw_at lw_m4 200 rfl) rfl
theorem q1111 : (Jvm.Cond.methodLink "OutwardDoors" (283 : Nat) ({ cls := "OutwardDoors$Castle", name := "firstOut", desc := "(II)I" } : Jvm.MethodName)) ∈ lw_all := lw_g (lw_at lw_m5 2 rfl) rfl
theorem q1115 : (Jvm.Cond.methodLink "OutwardDoors" (300 : Nat) ({ cls := "OutwardDoors", name := "goesOut", desc := "(LOutwardDoors$State;I)Z" } : Jvm.MethodName)) ∈ lw_all := lw_g (lw_at lw_m5 6 rfl) rfl
theorem q1116 : (Jvm.Cond.privateMethod ({ cls := "OutwardDoors", name := "goesOut", desc := "(LOutwardDoors$State;I)Z" } : Jvm.MethodName)) ∈ lw_tbl := lw_at lw_m5 7 rfl
theorem q1117 : (Jvm.Cond.instanceMethod ({ cls := "OutwardDoors", name := "goesOut", desc := "(LOutwardDoors$State;I)Z" } : Jvm.MethodName)) ∈ lw_all := lw_g (lw_at lw_m5 8 rfl) rfl
theorem q1118 : (Jvm.Cond.code ({ cls := "OutwardDoors", name := "goesOut", desc := "(LOutwardDoors$State;I)Z" } : Jvm.MethodName) prog_1_method_28_code (3 : Nat) (Option.some Jvm.ClassFile.FieldType.boolean)) ∈ lw_all := lw_g (lw_at lw_m5 9 rfl) rfl
theorem q1119 : (Jvm.Cond.methodLink "OutwardDoors" (303 : Nat) ({ cls := "OutwardDoors", name := "passes", desc := "(LOutwardDoors$State;II)I" } : Jvm.MethodName)) ∈ lw_all := lw_g (lw_at lw_m5 10 rfl) rfl
theorem q1120 : (Jvm.Cond.privateMethod ({ cls := "OutwardDoors", name := "passes", desc := "(LOutwardDoors$State;II)I" } : Jvm.MethodName)) ∈ lw_tbl := lw_at lw_m5 11 rfl
theorem q1121 : (Jvm.Cond.instanceMethod ({ cls := "OutwardDoors", name := "passes", desc := "(LOutwardDoors$State;II)I" } : Jvm.MethodName)) ∈ lw_all := lw_g (lw_at lw_m5 12 rfl) rfl
theorem q1122 : (Jvm.Cond.code ({ cls := "OutwardDoors", name := "passes", desc := "(LOutwardDoors$State;II)I" } : Jvm.MethodName) prog_1_method_29_code (7 : Nat) (Option.some Jvm.ClassFile.FieldType.int)) ∈ lw_all := lw_g (lw_at lw_m5 13 rfl) rfl
theorem q1123 : (Jvm.Cond.methodLink "OutwardDoors" (289 : Nat) ({ cls := "OutwardDoors$State", name := "goesOut", desc := "(II)V" } : Jvm.MethodName)) ∈ lw_all := lw_g (lw_at lw_m5 14 rfl) rfl
theorem q1127 : (Jvm.Cond.methodLink "OutwardDoors" (292 : Nat) ({ cls := "OutwardDoors$State", name := "comesIn", desc := "(III)V" } : Jvm.MethodName)) ∈ lw_all := lw_g (lw_at lw_m5 18 rfl) rfl
theorem q1132 : (Jvm.Cond.instanceMethod ({ cls := "OutwardDoors", name := "aim", desc := "(II)I" } : Jvm.MethodName)) ∈ lw_all := lw_g (lw_at lw_m5 23 rfl) rfl
theorem q1133 : (Jvm.Cond.selects "OutwardDoors" ({ cls := "OutwardDoors", name := "aim", desc := "(II)I" } : Jvm.MethodName) ({ cls := "OutwardDoors", name := "aim", desc := "(II)I" } : Jvm.MethodName)) ∈ lw_all := lw_g (lw_at lw_m5 24 rfl) rfl
theorem q1134 : (Jvm.Cond.code ({ cls := "OutwardDoors", name := "aim", desc := "(II)I" } : Jvm.MethodName) prog_1_method_35_code (4 : Nat) (Option.some Jvm.ClassFile.FieldType.int)) ∈ lw_all := lw_g (lw_at lw_m5 25 rfl) rfl
theorem q1136 : (Jvm.Cond.instanceMethod ({ cls := "OutwardDoors", name := "send", desc := "(III)Z" } : Jvm.MethodName)) ∈ lw_all := lw_g (lw_at lw_m5 27 rfl) rfl
theorem q1137 : (Jvm.Cond.selects "OutwardDoors" ({ cls := "OutwardDoors", name := "send", desc := "(III)Z" } : Jvm.MethodName) ({ cls := "OutwardDoors", name := "send", desc := "(III)Z" } : Jvm.MethodName)) ∈ lw_all := lw_g (lw_at lw_m5 28 rfl) rfl
theorem q1138 : (Jvm.Cond.code ({ cls := "OutwardDoors", name := "send", desc := "(III)Z" } : Jvm.MethodName) prog_1_method_37_code (4 : Nat) (Option.some Jvm.ClassFile.FieldType.boolean)) ∈ lw_all := lw_g (lw_at lw_m5 29 rfl) rfl
theorem q1139 : (Jvm.Cond.methodLink "OutwardDoors" (319 : Nat) ({ cls := "OutwardDoors", name := "canPass", desc := "(III)Z" } : Jvm.MethodName)) ∈ lw_all := lw_g (lw_at lw_m5 30 rfl) rfl
theorem q1140 : (Jvm.Cond.privateMethod ({ cls := "OutwardDoors", name := "canPass", desc := "(III)Z" } : Jvm.MethodName)) ∈ lw_tbl := lw_at lw_m5 31 rfl
theorem q1141 : (Jvm.Cond.instanceMethod ({ cls := "OutwardDoors", name := "canPass", desc := "(III)Z" } : Jvm.MethodName)) ∈ lw_all := lw_g (lw_at lw_m5 32 rfl) rfl
theorem q1142 : (Jvm.Cond.code ({ cls := "OutwardDoors", name := "canPass", desc := "(III)Z" } : Jvm.MethodName) prog_1_method_36_code (4 : Nat) (Option.some Jvm.ClassFile.FieldType.boolean)) ∈ lw_all := lw_g (lw_at lw_m5 33 rfl) rfl
theorem q1144 : (Jvm.Cond.instanceMethod ({ cls := "OutwardDoors", name := "ahead", desc := "(II)I" } : Jvm.MethodName)) ∈ lw_all := lw_g (lw_at lw_m5 35 rfl) rfl
theorem q1145 : (Jvm.Cond.selects "OutwardDoors" ({ cls := "OutwardDoors", name := "ahead", desc := "(II)I" } : Jvm.MethodName) ({ cls := "OutwardDoors", name := "ahead", desc := "(II)I" } : Jvm.MethodName)) ∈ lw_all := lw_g (lw_at lw_m5 36 rfl) rfl
theorem q1146 : (Jvm.Cond.code ({ cls := "OutwardDoors", name := "ahead", desc := "(II)I" } : Jvm.MethodName) prog_1_method_39_code (3 : Nat) (Option.some Jvm.ClassFile.FieldType.int)) ∈ lw_all := lw_g (lw_at lw_m5 37 rfl) rfl
theorem q1147 : (Jvm.Cond.constantLong "OutwardDoors" (323 : Nat) (100 : Int64)) ∈ lw_all := lw_g (lw_at lw_m5 38 rfl) rfl
theorem q1148 : (Jvm.Cond.methodLink "OutwardDoors" (325 : Nat) ({ cls := "OutwardDoors", name := "goesTill", desc := "(I)V" } : Jvm.MethodName)) ∈ lw_all := lw_g (lw_at lw_m5 39 rfl) rfl
theorem q1149 : (Jvm.Cond.privateMethod ({ cls := "OutwardDoors", name := "goesTill", desc := "(I)V" } : Jvm.MethodName)) ∈ lw_tbl := lw_at lw_m5 40 rfl
theorem q1150 : (Jvm.Cond.instanceMethod ({ cls := "OutwardDoors", name := "goesTill", desc := "(I)V" } : Jvm.MethodName)) ∈ lw_all := lw_g (lw_at lw_m5 41 rfl) rfl
theorem q1151 : (Jvm.Cond.code ({ cls := "OutwardDoors", name := "goesTill", desc := "(I)V" } : Jvm.MethodName) prog_1_method_38_code (3 : Nat) (Option.none : Option Jvm.ClassFile.FieldType)) ∈ lw_all := lw_g (lw_at lw_m5 42 rfl) rfl
theorem q1153 : (Jvm.Cond.instanceMethod ({ cls := "OutwardDoors", name := "comes", desc := "(I)I" } : Jvm.MethodName)) ∈ lw_all := lw_g (lw_at lw_m5 44 rfl) rfl
theorem q1154 : (Jvm.Cond.selects "OutwardDoors" ({ cls := "OutwardDoors", name := "comes", desc := "(I)I" } : Jvm.MethodName) ({ cls := "OutwardDoors", name := "comes", desc := "(I)I" } : Jvm.MethodName)) ∈ lw_all := lw_g (lw_at lw_m5 45 rfl) rfl
theorem q1155 : (Jvm.Cond.code ({ cls := "OutwardDoors", name := "comes", desc := "(I)I" } : Jvm.MethodName) prog_1_method_40_code (3 : Nat) (Option.some Jvm.ClassFile.FieldType.int)) ∈ lw_all := lw_g (lw_at lw_m5 46 rfl) rfl
theorem q1157 : (Jvm.Cond.instanceMethod ({ cls := "OutwardDoors", name := "fewest", desc := "(I)I" } : Jvm.MethodName)) ∈ lw_all := lw_g (lw_at lw_m5 48 rfl) rfl
theorem q1158 : (Jvm.Cond.selects "OutwardDoors" ({ cls := "OutwardDoors", name := "fewest", desc := "(I)I" } : Jvm.MethodName) ({ cls := "OutwardDoors", name := "fewest", desc := "(I)I" } : Jvm.MethodName)) ∈ lw_all := lw_g (lw_at lw_m5 49 rfl) rfl
theorem q1159 : (Jvm.Cond.code ({ cls := "OutwardDoors", name := "fewest", desc := "(I)I" } : Jvm.MethodName) prog_1_method_50_code (2 : Nat) (Option.some Jvm.ClassFile.FieldType.int)) ∈ lw_all := lw_g (lw_at lw_m5 50 rfl) rfl
theorem q1160 : (Jvm.Cond.methodLink "OutwardDoors" (355 : Nat) ({ cls := "OutwardDoors", name := "isPeople", desc := "(I)Z" } : Jvm.MethodName)) ∈ lw_all := lw_g (lw_at lw_m5 51 rfl) rfl
theorem q1161 : (Jvm.Cond.privateMethod ({ cls := "OutwardDoors", name := "isPeople", desc := "(I)Z" } : Jvm.MethodName)) ∈ lw_tbl := lw_at lw_m5 52 rfl
theorem q1162 : (Jvm.Cond.instanceMethod ({ cls := "OutwardDoors", name := "isPeople", desc := "(I)Z" } : Jvm.MethodName)) ∈ lw_all := lw_g (lw_at lw_m5 53 rfl) rfl
theorem q1163 : (Jvm.Cond.code ({ cls := "OutwardDoors", name := "isPeople", desc := "(I)Z" } : Jvm.MethodName) prog_1_method_9_code (2 : Nat) (Option.some Jvm.ClassFile.FieldType.boolean)) ∈ lw_all := lw_g (lw_at lw_m5 54 rfl) rfl
theorem q1164 : (Jvm.Cond.methodLink "OutwardDoors" (358 : Nat) ({ cls := "OutwardDoors", name := "fewestOf", desc := "(I)I" } : Jvm.MethodName)) ∈ lw_all := lw_g (lw_at lw_m5 55 rfl) rfl
theorem q1165 : (Jvm.Cond.privateMethod ({ cls := "OutwardDoors", name := "fewestOf", desc := "(I)I" } : Jvm.MethodName)) ∈ lw_tbl := lw_at lw_m5 56 rfl
theorem q1166 : (Jvm.Cond.instanceMethod ({ cls := "OutwardDoors", name := "fewestOf", desc := "(I)I" } : Jvm.MethodName)) ∈ lw_all := lw_g (lw_at lw_m5 57 rfl) rfl
theorem q1167 : (Jvm.Cond.code ({ cls := "OutwardDoors", name := "fewestOf", desc := "(I)I" } : Jvm.MethodName) prog_1_method_49_code (3 : Nat) (Option.some Jvm.ClassFile.FieldType.int)) ∈ lw_all := lw_g (lw_at lw_m5 58 rfl) rfl
theorem q1168 : (Jvm.Cond.methodLink "OutwardDoors" (349 : Nat) ({ cls := "OutwardDoors", name := "placesNow", desc := "()I" } : Jvm.MethodName)) ∈ lw_all := lw_g (lw_at lw_m5 59 rfl) rfl
theorem q1169 : (Jvm.Cond.privateMethod ({ cls := "OutwardDoors", name := "placesNow", desc := "()I" } : Jvm.MethodName)) ∈ lw_tbl := lw_at lw_m5 60 rfl
theorem q1170 : (Jvm.Cond.instanceMethod ({ cls := "OutwardDoors", name := "placesNow", desc := "()I" } : Jvm.MethodName)) ∈ lw_all := lw_g (lw_at lw_m5 61 rfl) rfl
theorem q1171 : (Jvm.Cond.code ({ cls := "OutwardDoors", name := "placesNow", desc := "()I" } : Jvm.MethodName) prog_1_method_43_code (3 : Nat) (Option.some Jvm.ClassFile.FieldType.int)) ∈ lw_all := lw_g (lw_at lw_m5 62 rfl) rfl
theorem q1172 : (Jvm.Cond.methodLink "OutwardDoors" (352 : Nat) ({ cls := "OutwardDoors", name := "finds", desc := "(III)I" } : Jvm.MethodName)) ∈ lw_all := lw_g (lw_at lw_m5 63 rfl) rfl
theorem q1173 : (Jvm.Cond.privateMethod ({ cls := "OutwardDoors", name := "finds", desc := "(III)I" } : Jvm.MethodName)) ∈ lw_tbl := lw_at lw_m5 64 rfl
theorem q1174 : (Jvm.Cond.instanceMethod ({ cls := "OutwardDoors", name := "finds", desc := "(III)I" } : Jvm.MethodName)) ∈ lw_all := lw_g (lw_at lw_m5 65 rfl) rfl
theorem q1175 : (Jvm.Cond.code ({ cls := "OutwardDoors", name := "finds", desc := "(III)I" } : Jvm.MethodName) prog_1_method_48_code (5 : Nat) (Option.some Jvm.ClassFile.FieldType.int)) ∈ lw_all := lw_g (lw_at lw_m5 66 rfl) rfl
theorem q1176 : (Jvm.Cond.methodLink "OutwardDoors" (343 : Nat) ({ cls := "OutwardDoors", name := "areThere", desc := "(II)Z" } : Jvm.MethodName)) ∈ lw_all := lw_g (lw_at lw_m5 67 rfl) rfl
theorem q1177 : (Jvm.Cond.privateMethod ({ cls := "OutwardDoors", name := "areThere", desc := "(II)Z" } : Jvm.MethodName)) ∈ lw_tbl := lw_at lw_m5 68 rfl
theorem q1178 : (Jvm.Cond.instanceMethod ({ cls := "OutwardDoors", name := "areThere", desc := "(II)Z" } : Jvm.MethodName)) ∈ lw_all := lw_g (lw_at lw_m5 69 rfl) rfl
theorem q1179 : (Jvm.Cond.code ({ cls := "OutwardDoors", name := "areThere", desc := "(II)Z" } : Jvm.MethodName) prog_1_method_47_code (4 : Nat) (Option.some Jvm.ClassFile.FieldType.boolean)) ∈ lw_all := lw_g (lw_at lw_m5 70 rfl) rfl
theorem q1180 : (Jvm.Cond.methodLink "OutwardDoors" (331 : Nat) ({ cls := "OutwardDoors", name := "placeOf", desc := "(II)I" } : Jvm.MethodName)) ∈ lw_all := lw_g (lw_at lw_m5 71 rfl) rfl
theorem q1181 : (Jvm.Cond.static ({ cls := "OutwardDoors", name := "placeOf", desc := "(II)I" } : Jvm.MethodName)) ∈ lw_all := lw_g (lw_at lw_m5 72 rfl) rfl
theorem q1182 : (Jvm.Cond.code ({ cls := "OutwardDoors", name := "placeOf", desc := "(II)I" } : Jvm.MethodName) prog_1_method_41_code (2 : Nat) (Option.some Jvm.ClassFile.FieldType.int)) ∈ lw_all := lw_g (lw_at lw_m5 73 rfl) rfl
theorem q1183 : (Jvm.Cond.methodLink "OutwardDoors" (346 : Nat) ({ cls := "OutwardDoors", name := "spreads", desc := "(II)V" } : Jvm.MethodName)) ∈ lw_all := lw_g (lw_at lw_m5 74 rfl) rfl
theorem q1184 : (Jvm.Cond.privateMethod ({ cls := "OutwardDoors", name := "spreads", desc := "(II)V" } : Jvm.MethodName)) ∈ lw_tbl := lw_at lw_m5 75 rfl
theorem q1185 : (Jvm.Cond.instanceMethod ({ cls := "OutwardDoors", name := "spreads", desc := "(II)V" } : Jvm.MethodName)) ∈ lw_all := lw_g (lw_at lw_m5 76 rfl) rfl
theorem q1186 : (Jvm.Cond.code ({ cls := "OutwardDoors", name := "spreads", desc := "(II)V" } : Jvm.MethodName) prog_1_method_45_code (7 : Nat) (Option.none : Option Jvm.ClassFile.FieldType)) ∈ lw_all := lw_g (lw_at lw_m5 77 rfl) rfl
theorem q1187 : (Jvm.Cond.methodLink "OutwardDoors" (334 : Nat) ({ cls := "OutwardDoors", name := "moved", desc := "(III)I" } : Jvm.MethodName)) ∈ lw_all := lw_g (lw_at lw_m5 78 rfl) rfl
theorem q1188 : (Jvm.Cond.static ({ cls := "OutwardDoors", name := "moved", desc := "(III)I" } : Jvm.MethodName)) ∈ lw_all := lw_g (lw_at lw_m5 79 rfl) rfl
theorem q1189 : (Jvm.Cond.code ({ cls := "OutwardDoors", name := "moved", desc := "(III)I" } : Jvm.MethodName) prog_1_method_42_code (3 : Nat) (Option.some Jvm.ClassFile.FieldType.int)) ∈ lw_all := lw_g (lw_at lw_m5 80 rfl) rfl
theorem q1190 : (Jvm.Cond.methodLink "OutwardDoors" (337 : Nat) ({ cls := "OutwardDoors", name := "codeOf", desc := "(III)I" } : Jvm.MethodName)) ∈ lw_all := lw_g (lw_at lw_m5 81 rfl) rfl
theorem q1191 : (Jvm.Cond.static ({ cls := "OutwardDoors", name := "codeOf", desc := "(III)I" } : Jvm.MethodName)) ∈ lw_all := lw_g (lw_at lw_m5 82 rfl) rfl
theorem q1192 : (Jvm.Cond.code ({ cls := "OutwardDoors", name := "codeOf", desc := "(III)I" } : Jvm.MethodName) prog_1_method_46_code (3 : Nat) (Option.some Jvm.ClassFile.FieldType.int)) ∈ lw_all := lw_g (lw_at lw_m5 83 rfl) rfl
theorem q1193 : (Jvm.Cond.methodLink "OutwardDoors" (340 : Nat) ({ cls := "OutwardDoors", name := "reaches", desc := "(III)V" } : Jvm.MethodName)) ∈ lw_all := lw_g (lw_at lw_m5 84 rfl) rfl
theorem q1194 : (Jvm.Cond.privateMethod ({ cls := "OutwardDoors", name := "reaches", desc := "(III)V" } : Jvm.MethodName)) ∈ lw_tbl := lw_at lw_m5 85 rfl
theorem q1195 : (Jvm.Cond.instanceMethod ({ cls := "OutwardDoors", name := "reaches", desc := "(III)V" } : Jvm.MethodName)) ∈ lw_all := lw_g (lw_at lw_m5 86 rfl) rfl
theorem q1196 : (Jvm.Cond.code ({ cls := "OutwardDoors", name := "reaches", desc := "(III)V" } : Jvm.MethodName) prog_1_method_44_code (4 : Nat) (Option.none : Option Jvm.ClassFile.FieldType)) ∈ lw_all := lw_g (lw_at lw_m5 87 rfl) rfl
theorem q1198 : (Jvm.Cond.instanceMethod ({ cls := "OutwardDoors", name := "passing", desc := "(III)I" } : Jvm.MethodName)) ∈ lw_all := lw_g (lw_at lw_m5 89 rfl) rfl
theorem q1199 : (Jvm.Cond.selects "OutwardDoors" ({ cls := "OutwardDoors", name := "passing", desc := "(III)I" } : Jvm.MethodName) ({ cls := "OutwardDoors", name := "passing", desc := "(III)I" } : Jvm.MethodName)) ∈ lw_all := lw_g (lw_at lw_m5 90 rfl) rfl
theorem q1200 : (Jvm.Cond.code ({ cls := "OutwardDoors", name := "passing", desc := "(III)I" } : Jvm.MethodName) prog_1_method_51_code (7 : Nat) (Option.some Jvm.ClassFile.FieldType.int)) ∈ lw_all := lw_g (lw_at lw_m5 91 rfl) rfl
theorem q1201 : (Jvm.Cond.constantLong "OutwardDoors" (361 : Nat) (2 : Int64)) ∈ lw_all := lw_g (lw_at lw_m5 92 rfl) rfl
theorem q1203 : (Jvm.Cond.instanceMethod ({ cls := "OutwardDoors", name := "caught", desc := "(I)I" } : Jvm.MethodName)) ∈ lw_all := lw_g (lw_at lw_m5 94 rfl) rfl
theorem q1204 : (Jvm.Cond.selects "OutwardDoors" ({ cls := "OutwardDoors", name := "caught", desc := "(I)I" } : Jvm.MethodName) ({ cls := "OutwardDoors", name := "caught", desc := "(I)I" } : Jvm.MethodName)) ∈ lw_all := lw_g (lw_at lw_m5 95 rfl) rfl
theorem q1205 : (Jvm.Cond.code ({ cls := "OutwardDoors", name := "caught", desc := "(I)I" } : Jvm.MethodName) prog_1_method_52_code (6 : Nat) (Option.some Jvm.ClassFile.FieldType.int)) ∈ lw_all := lw_g (lw_at lw_m5 96 rfl) rfl
theorem q1207 : (Jvm.Cond.instanceMethod ({ cls := "OutwardDoors", name := "page", desc := "(II)I" } : Jvm.MethodName)) ∈ lw_all := lw_g (lw_at lw_m5 98 rfl) rfl
theorem q1208 : (Jvm.Cond.selects "OutwardDoors" ({ cls := "OutwardDoors", name := "page", desc := "(II)I" } : Jvm.MethodName) ({ cls := "OutwardDoors", name := "page", desc := "(II)I" } : Jvm.MethodName)) ∈ lw_all := lw_g (lw_at lw_m5 99 rfl) rfl
theorem q1209 : (Jvm.Cond.code ({ cls := "OutwardDoors", name := "page", desc := "(II)I" } : Jvm.MethodName) prog_1_method_53_code (8 : Nat) (Option.some Jvm.ClassFile.FieldType.int)) ∈ lw_all := lw_g (lw_at lw_m5 100 rfl) rfl
theorem q1211 : (Jvm.Cond.instanceMethod ({ cls := "OutwardDoors", name := "price", desc := "(I)I" } : Jvm.MethodName)) ∈ lw_all := lw_g (lw_at lw_m5 102 rfl) rfl
theorem q1212 : (Jvm.Cond.selects "OutwardDoors" ({ cls := "OutwardDoors", name := "price", desc := "(I)I" } : Jvm.MethodName) ({ cls := "OutwardDoors", name := "price", desc := "(I)I" } : Jvm.MethodName)) ∈ lw_all := lw_g (lw_at lw_m5 103 rfl) rfl
theorem q1213 : (Jvm.Cond.code ({ cls := "OutwardDoors", name := "price", desc := "(I)I" } : Jvm.MethodName) prog_1_method_56_code (3 : Nat) (Option.some Jvm.ClassFile.FieldType.int)) ∈ lw_all := lw_g (lw_at lw_m5 104 rfl) rfl
theorem q1214 : (Jvm.Cond.constant "OutwardDoors" (363 : Nat) (1000000000 : Int32)) ∈ lw_all := lw_g (lw_at lw_m5 105 rfl) rfl
theorem q1215 : (Jvm.Cond.methodLink "OutwardDoors" (364 : Nat) ({ cls := "OutwardDoors", name := "cheapest", desc := "()I" } : Jvm.MethodName)) ∈ lw_all := lw_g (lw_at lw_m5 106 rfl) rfl
theorem q1216 : (Jvm.Cond.privateMethod ({ cls := "OutwardDoors", name := "cheapest", desc := "()I" } : Jvm.MethodName)) ∈ lw_tbl := lw_at lw_m5 107 rfl
theorem q1217 : (Jvm.Cond.instanceMethod ({ cls := "OutwardDoors", name := "cheapest", desc := "()I" } : Jvm.MethodName)) ∈ lw_all := lw_g (lw_at lw_m5 108 rfl) rfl
theorem q1218 : (Jvm.Cond.code ({ cls := "OutwardDoors", name := "cheapest", desc := "()I" } : Jvm.MethodName) prog_1_method_54_code (3 : Nat) (Option.some Jvm.ClassFile.FieldType.int)) ∈ lw_all := lw_g (lw_at lw_m5 109 rfl) rfl
theorem q1219 : (Jvm.Cond.methodLink "OutwardDoors" (367 : Nat) ({ cls := "OutwardDoors", name := "pays", desc := "(II)V" } : Jvm.MethodName)) ∈ lw_all := lw_g (lw_at lw_m5 110 rfl) rfl
theorem q1220 : (Jvm.Cond.privateMethod ({ cls := "OutwardDoors", name := "pays", desc := "(II)V" } : Jvm.MethodName)) ∈ lw_tbl := lw_at lw_m5 111 rfl
theorem q1221 : (Jvm.Cond.instanceMethod ({ cls := "OutwardDoors", name := "pays", desc := "(II)V" } : Jvm.MethodName)) ∈ lw_all := lw_g (lw_at lw_m5 112 rfl) rfl
theorem q1222 : (Jvm.Cond.code ({ cls := "OutwardDoors", name := "pays", desc := "(II)V" } : Jvm.MethodName) prog_1_method_55_code (9 : Nat) (Option.none : Option Jvm.ClassFile.FieldType)) ∈ lw_all := lw_g (lw_at lw_m5 113 rfl) rfl
theorem q1224 : (Jvm.Cond.instanceMethod ({ cls := "OutwardDoors", name := "turned", desc := "(II)I" } : Jvm.MethodName)) ∈ lw_all := lw_g (lw_at lw_m5 115 rfl) rfl
theorem q1225 : (Jvm.Cond.selects "OutwardDoors" ({ cls := "OutwardDoors", name := "turned", desc := "(II)I" } : Jvm.MethodName) ({ cls := "OutwardDoors", name := "turned", desc := "(II)I" } : Jvm.MethodName)) ∈ lw_all := lw_g (lw_at lw_m5 116 rfl) rfl
theorem q1226 : (Jvm.Cond.code ({ cls := "OutwardDoors", name := "turned", desc := "(II)I" } : Jvm.MethodName) prog_1_method_57_code (4 : Nat) (Option.some Jvm.ClassFile.FieldType.int)) ∈ lw_all := lw_g (lw_at lw_m5 117 rfl) rfl
theorem q1228 : (Jvm.Cond.instanceMethod ({ cls := "OutwardDoors", name := "swap", desc := "(I)I" } : Jvm.MethodName)) ∈ lw_all := lw_g (lw_at lw_m5 119 rfl) rfl
theorem q1229 : (Jvm.Cond.selects "OutwardDoors" ({ cls := "OutwardDoors", name := "swap", desc := "(I)I" } : Jvm.MethodName) ({ cls := "OutwardDoors", name := "swap", desc := "(I)I" } : Jvm.MethodName)) ∈ lw_all := lw_g (lw_at lw_m5 120 rfl) rfl
theorem q1230 : (Jvm.Cond.code ({ cls := "OutwardDoors", name := "swap", desc := "(I)I" } : Jvm.MethodName) prog_1_method_59_code (7 : Nat) (Option.some Jvm.ClassFile.FieldType.int)) ∈ lw_all := lw_g (lw_at lw_m5 121 rfl) rfl
theorem q1231 : (Jvm.Cond.methodLink "OutwardDoors" (370 : Nat) ({ cls := "OutwardDoors", name := "wouldSwap", desc := "(II)Z" } : Jvm.MethodName)) ∈ lw_all := lw_g (lw_at lw_m5 122 rfl) rfl
theorem q1232 : (Jvm.Cond.privateMethod ({ cls := "OutwardDoors", name := "wouldSwap", desc := "(II)Z" } : Jvm.MethodName)) ∈ lw_tbl := lw_at lw_m5 123 rfl
theorem q1233 : (Jvm.Cond.instanceMethod ({ cls := "OutwardDoors", name := "wouldSwap", desc := "(II)Z" } : Jvm.MethodName)) ∈ lw_all := lw_g (lw_at lw_m5 124 rfl) rfl
theorem q1234 : (Jvm.Cond.code ({ cls := "OutwardDoors", name := "wouldSwap", desc := "(II)Z" } : Jvm.MethodName) prog_1_method_58_code (4 : Nat) (Option.some Jvm.ClassFile.FieldType.boolean)) ∈ lw_all := lw_g (lw_at lw_m5 125 rfl) rfl
theorem q1236 : (Jvm.Cond.instanceMethod ({ cls := "OutwardDoors", name := "note", desc := "(III)I" } : Jvm.MethodName)) ∈ lw_all := lw_g (lw_at lw_m5 127 rfl) rfl
theorem q1237 : (Jvm.Cond.selects "OutwardDoors" ({ cls := "OutwardDoors", name := "note", desc := "(III)I" } : Jvm.MethodName) ({ cls := "OutwardDoors", name := "note", desc := "(III)I" } : Jvm.MethodName)) ∈ lw_all := lw_g (lw_at lw_m5 128 rfl) rfl
theorem q1238 : (Jvm.Cond.code ({ cls := "OutwardDoors", name := "note", desc := "(III)I" } : Jvm.MethodName) prog_1_method_60_code (4 : Nat) (Option.some Jvm.ClassFile.FieldType.int)) ∈ lw_all := lw_g (lw_at lw_m5 129 rfl) rfl
theorem q1239 : (Jvm.Cond.constantLong "OutwardDoors" (373 : Nat) (60 : Int64)) ∈ lw_all := lw_g (lw_at lw_m5 130 rfl) rfl
theorem q1241 : (Jvm.Cond.instanceMethod ({ cls := "OutwardDoors", name := "ruled", desc := "(I)I" } : Jvm.MethodName)) ∈ lw_all := lw_g (lw_at lw_m5 132 rfl) rfl
theorem q1242 : (Jvm.Cond.selects "OutwardDoors" ({ cls := "OutwardDoors", name := "ruled", desc := "(I)I" } : Jvm.MethodName) ({ cls := "OutwardDoors", name := "ruled", desc := "(I)I" } : Jvm.MethodName)) ∈ lw_all := lw_g (lw_at lw_m5 133 rfl) rfl
theorem q1243 : (Jvm.Cond.code ({ cls := "OutwardDoors", name := "ruled", desc := "(I)I" } : Jvm.MethodName) prog_1_method_63_code (5 : Nat) (Option.some Jvm.ClassFile.FieldType.int)) ∈ lw_all := lw_g (lw_at lw_m5 134 rfl) rfl
theorem q1244 : (Jvm.Cond.methodLink "OutwardDoors" (378 : Nat) ({ cls := "OutwardDoors", name := "couldRule", desc := "(I)Z" } : Jvm.MethodName)) ∈ lw_all := lw_g (lw_at lw_m5 135 rfl) rfl
theorem q1245 : (Jvm.Cond.privateMethod ({ cls := "OutwardDoors", name := "couldRule", desc := "(I)Z" } : Jvm.MethodName)) ∈ lw_tbl := lw_at lw_m5 136 rfl
theorem q1246 : (Jvm.Cond.instanceMethod ({ cls := "OutwardDoors", name := "couldRule", desc := "(I)Z" } : Jvm.MethodName)) ∈ lw_all := lw_g (lw_at lw_m5 137 rfl) rfl
theorem q1247 : (Jvm.Cond.code ({ cls := "OutwardDoors", name := "couldRule", desc := "(I)Z" } : Jvm.MethodName) prog_1_method_62_code (4 : Nat) (Option.some Jvm.ClassFile.FieldType.boolean)) ∈ lw_all := lw_g (lw_at lw_m5 138 rfl) rfl
theorem q1248 : (Jvm.Cond.methodLink "OutwardDoors" (375 : Nat) ({ cls := "OutwardDoors", name := "areNotesSo", desc := "()Z" } : Jvm.MethodName)) ∈ lw_all := lw_g (lw_at lw_m5 139 rfl) rfl
theorem q1249 : (Jvm.Cond.privateMethod ({ cls := "OutwardDoors", name := "areNotesSo", desc := "()Z" } : Jvm.MethodName)) ∈ lw_tbl := lw_at lw_m5 140 rfl
theorem q1250 : (Jvm.Cond.instanceMethod ({ cls := "OutwardDoors", name := "areNotesSo", desc := "()Z" } : Jvm.MethodName)) ∈ lw_all := lw_g (lw_at lw_m5 141 rfl) rfl
theorem q1251 : (Jvm.Cond.code ({ cls := "OutwardDoors", name := "areNotesSo", desc := "()Z" } : Jvm.MethodName) prog_1_method_61_code (3 : Nat) (Option.some Jvm.ClassFile.FieldType.boolean)) ∈ lw_all := lw_g (lw_at lw_m5 142 rfl) rfl
theorem q1253 : (Jvm.Cond.instanceMethod ({ cls := "OutwardDoors", name := "look", desc := "(II)I" } : Jvm.MethodName)) ∈ lw_all := lw_g (lw_at lw_m5 144 rfl) rfl
theorem q1254 : (Jvm.Cond.selects "OutwardDoors" ({ cls := "OutwardDoors", name := "look", desc := "(II)I" } : Jvm.MethodName) ({ cls := "OutwardDoors", name := "look", desc := "(II)I" } : Jvm.MethodName)) ∈ lw_all := lw_g (lw_at lw_m5 145 rfl) rfl
theorem q1255 : (Jvm.Cond.code ({ cls := "OutwardDoors", name := "look", desc := "(II)I" } : Jvm.MethodName) prog_1_method_66_code (6 : Nat) (Option.some Jvm.ClassFile.FieldType.int)) ∈ lw_all := lw_g (lw_at lw_m5 146 rfl) rfl
theorem q1256 : (Jvm.Cond.methodLink "OutwardDoors" (384 : Nat) ({ cls := "OutwardDoors", name := "laysRooms", desc := "(I)I" } : Jvm.MethodName)) ∈ lw_all := lw_g (lw_at lw_m5 147 rfl) rfl
theorem q1257 : (Jvm.Cond.privateMethod ({ cls := "OutwardDoors", name := "laysRooms", desc := "(I)I" } : Jvm.MethodName)) ∈ lw_tbl := lw_at lw_m5 148 rfl
theorem q1258 : (Jvm.Cond.instanceMethod ({ cls := "OutwardDoors", name := "laysRooms", desc := "(I)I" } : Jvm.MethodName)) ∈ lw_all := lw_g (lw_at lw_m5 149 rfl) rfl
theorem q1259 : (Jvm.Cond.code ({ cls := "OutwardDoors", name := "laysRooms", desc := "(I)I" } : Jvm.MethodName) prog_1_method_64_code (6 : Nat) (Option.some Jvm.ClassFile.FieldType.int)) ∈ lw_all := lw_g (lw_at lw_m5 150 rfl) rfl
theorem q1260 : (Jvm.Cond.methodLink "OutwardDoors" (387 : Nat) ({ cls := "OutwardDoors", name := "mostAlike", desc := "(II)I" } : Jvm.MethodName)) ∈ lw_all := lw_g (lw_at lw_m5 151 rfl) rfl
theorem q1261 : (Jvm.Cond.privateMethod ({ cls := "OutwardDoors", name := "mostAlike", desc := "(II)I" } : Jvm.MethodName)) ∈ lw_tbl := lw_at lw_m5 152 rfl
theorem q1262 : (Jvm.Cond.instanceMethod ({ cls := "OutwardDoors", name := "mostAlike", desc := "(II)I" } : Jvm.MethodName)) ∈ lw_all := lw_g (lw_at lw_m5 153 rfl) rfl
theorem q1263 : (Jvm.Cond.code ({ cls := "OutwardDoors", name := "mostAlike", desc := "(II)I" } : Jvm.MethodName) prog_1_method_65_code (7 : Nat) (Option.some Jvm.ClassFile.FieldType.int)) ∈ lw_all := lw_g (lw_at lw_m5 154 rfl) rfl
theorem q1264 : (Jvm.Cond.methodLink "OutwardDoors" (381 : Nat) ({ cls := "java/lang/Math", name := "max", desc := "(II)I" } : Jvm.MethodName)) ∈ lw_all := lw_g (lw_at lw_m5 155 rfl) rfl
theorem q1266 : (Jvm.Cond.instanceMethod ({ cls := "OutwardDoors", name := "seed", desc := "(I)I" } : Jvm.MethodName)) ∈ lw_all := lw_g (lw_at lw_m5 157 rfl) rfl
theorem q1267 : (Jvm.Cond.selects "OutwardDoors" ({ cls := "OutwardDoors", name := "seed", desc := "(I)I" } : Jvm.MethodName) ({ cls := "OutwardDoors", name := "seed", desc := "(I)I" } : Jvm.MethodName)) ∈ lw_all := lw_g (lw_at lw_m5 158 rfl) rfl
theorem q1268 : (Jvm.Cond.code ({ cls := "OutwardDoors", name := "seed", desc := "(I)I" } : Jvm.MethodName) prog_1_method_67_code (3 : Nat) (Option.some Jvm.ClassFile.FieldType.int)) ∈ lw_all := lw_g (lw_at lw_m5 159 rfl) rfl
theorem q1270 : (Jvm.Cond.instanceMethod ({ cls := "OutwardDoors", name := "days", desc := "(III)I" } : Jvm.MethodName)) ∈ lw_all := lw_g (lw_at lw_m5 161 rfl) rfl
theorem q1271 : (Jvm.Cond.selects "OutwardDoors" ({ cls := "OutwardDoors", name := "days", desc := "(III)I" } : Jvm.MethodName) ({ cls := "OutwardDoors", name := "days", desc := "(III)I" } : Jvm.MethodName)) ∈ lw_all := lw_g (lw_at lw_m5 162 rfl) rfl
theorem q1272 : (Jvm.Cond.code ({ cls := "OutwardDoors", name := "days", desc := "(III)I" } : Jvm.MethodName) prog_1_method_70_code (9 : Nat) (Option.some Jvm.ClassFile.FieldType.int)) ∈ lw_all := lw_g (lw_at lw_m5 163 rfl) rfl
theorem q1273 : (Jvm.Cond.constantLong "OutwardDoors" (403 : Nat) (10 : Int64)) ∈ lw_all := lw_g (lw_at lw_m5 164 rfl) rfl
theorem q1274 : (Jvm.Cond.methodLink "OutwardDoors" (405 : Nat) ({ cls := "OutwardDoors", name := "drawsAim", desc := "()V" } : Jvm.MethodName)) ∈ lw_all := lw_g (lw_at lw_m5 165 rfl) rfl
theorem q1275 : (Jvm.Cond.privateMethod ({ cls := "OutwardDoors", name := "drawsAim", desc := "()V" } : Jvm.MethodName)) ∈ lw_tbl := lw_at lw_m5 166 rfl
theorem q1276 : (Jvm.Cond.instanceMethod ({ cls := "OutwardDoors", name := "drawsAim", desc := "()V" } : Jvm.MethodName)) ∈ lw_all := lw_g (lw_at lw_m5 167 rfl) rfl
theorem q1277 : (Jvm.Cond.code ({ cls := "OutwardDoors", name := "drawsAim", desc := "()V" } : Jvm.MethodName) prog_1_method_69_code (2 : Nat) (Option.none : Option Jvm.ClassFile.FieldType)) ∈ lw_all := lw_g (lw_at lw_m5 168 rfl) rfl
theorem q1278 : (Jvm.Cond.methodLink "OutwardDoors" (400 : Nat) ({ cls := "OutwardDoors", name := "draws", desc := "(I)I" } : Jvm.MethodName)) ∈ lw_all := lw_g (lw_at lw_m5 169 rfl) rfl
theorem q1279 : (Jvm.Cond.privateMethod ({ cls := "OutwardDoors", name := "draws", desc := "(I)I" } : Jvm.MethodName)) ∈ lw_tbl := lw_at lw_m5 170 rfl
theorem q1280 : (Jvm.Cond.instanceMethod ({ cls := "OutwardDoors", name := "draws", desc := "(I)I" } : Jvm.MethodName)) ∈ lw_all := lw_g (lw_at lw_m5 171 rfl) rfl
theorem q1281 : (Jvm.Cond.code ({ cls := "OutwardDoors", name := "draws", desc := "(I)I" } : Jvm.MethodName) prog_1_method_68_code (2 : Nat) (Option.some Jvm.ClassFile.FieldType.int)) ∈ lw_all := lw_g (lw_at lw_m5 172 rfl) rfl
theorem q1282 : (Jvm.Cond.constantLong "OutwardDoors" (393 : Nat) (1103515245 : Int64)) ∈ lw_all := lw_g (lw_at lw_m5 173 rfl) rfl
theorem q1283 : (Jvm.Cond.constantLong "OutwardDoors" (395 : Nat) (12345 : Int64)) ∈ lw_all := lw_g (lw_at lw_m5 174 rfl) rfl
theorem q1284 : (Jvm.Cond.constantLong "OutwardDoors" (397 : Nat) (2147483648 : Int64)) ∈ lw_all := lw_g (lw_at lw_m5 175 rfl) rfl
theorem q1285 : (Jvm.Cond.constant "OutwardDoors" (399 : Nat) (65536 : Int32)) ∈ lw_all := lw_g (lw_at lw_m5 176 rfl) rfl
theorem q1286 : (Jvm.Cond.methodLink "OutwardDoors" (408 : Nat) ({ cls := "OutwardDoors$State", name := "cameAll", desc := "()I" } : Jvm.MethodName)) ∈ lw_all := lw_g (lw_at lw_m5 177 rfl) rfl
theorem q1290 : (Jvm.Cond.methodLink "OutwardDoors" (411 : Nat) ({ cls := "OutwardDoors$State", name := "wentAll", desc := "()I" } : Jvm.MethodName)) ∈ lw_all := lw_g (lw_at lw_m5 181 rfl) rfl
theorem q1295 : (Jvm.Cond.instanceMethod ({ cls := "OutwardDoors", name := "count", desc := "(I)I" } : Jvm.MethodName)) ∈ lw_all := lw_g (lw_at lw_m5 186 rfl) rfl
theorem q1296 : (Jvm.Cond.selects "OutwardDoors" ({ cls := "OutwardDoors", name := "count", desc := "(I)I" } : Jvm.MethodName) ({ cls := "OutwardDoors", name := "count", desc := "(I)I" } : Jvm.MethodName)) ∈ lw_all := lw_g (lw_at lw_m5 187 rfl) rfl
theorem q1297 : (Jvm.Cond.code ({ cls := "OutwardDoors", name := "count", desc := "(I)I" } : Jvm.MethodName) prog_1_method_71_code (2 : Nat) (Option.some Jvm.ClassFile.FieldType.int)) ∈ lw_all := lw_g (lw_at lw_m5 188 rfl) rfl
theorem q1299 : (Jvm.Cond.instanceMethod ({ cls := "OutwardDoors", name := "image", desc := "(I)I" } : Jvm.MethodName)) ∈ lw_all := lw_g (lw_at lw_m5 190 rfl) rfl
theorem q1300 : (Jvm.Cond.selects "OutwardDoors" ({ cls := "OutwardDoors", name := "image", desc := "(I)I" } : Jvm.MethodName) ({ cls := "OutwardDoors", name := "image", desc := "(I)I" } : Jvm.MethodName)) ∈ lw_all := lw_g (lw_at lw_m5 191 rfl) rfl
theorem q1301 : (Jvm.Cond.code ({ cls := "OutwardDoors", name := "image", desc := "(I)I" } : Jvm.MethodName) prog_1_method_72_code (2 : Nat) (Option.some Jvm.ClassFile.FieldType.int)) ∈ lw_all := lw_g (lw_at lw_m5 192 rfl) rfl
theorem q1302 : (Jvm.Cond.constantLong "OutwardDoors" (414 : Nat) (3 : Int64)) ∈ lw_all := lw_g (lw_at lw_m5 193 rfl) rfl
theorem q1304 : (Jvm.Cond.methodLinkNest "OutwardDoors" (416 : Nat) ({ cls := "OutwardDoors$Image", name := "<init>", desc := "(LOutwardDoors;)V" } : Jvm.MethodName) "OutwardDoors") ∈ lw_tbl := lw_at lw_m5 195 rfl
theorem q1338 : (Jvm.Cond.methodLink "OutwardDoors" (419 : Nat) ({ cls := "OutwardDoors$Image", name := "keep", desc := "()V" } : Jvm.MethodName)) ∈ lw_all := lw_g (lw_at lw_m5 229 rfl) rfl
theorem q1344 : (Jvm.Cond.instanceMethod ({ cls := "OutwardDoors", name := "back", desc := "(I)I" } : Jvm.MethodName)) ∈ lw_all := lw_g (lw_at lw_m5 235 rfl) rfl
theorem q1345 : (Jvm.Cond.selects "OutwardDoors" ({ cls := "OutwardDoors", name := "back", desc := "(I)I" } : Jvm.MethodName) ({ cls := "OutwardDoors", name := "back", desc := "(I)I" } : Jvm.MethodName)) ∈ lw_all := lw_g (lw_at lw_m5 236 rfl) rfl
theorem q1346 : (Jvm.Cond.code ({ cls := "OutwardDoors", name := "back", desc := "(I)I" } : Jvm.MethodName) prog_1_method_73_code (2 : Nat) (Option.some Jvm.ClassFile.FieldType.int)) ∈ lw_all := lw_g (lw_at lw_m5 237 rfl) rfl
theorem q1347 : (Jvm.Cond.methodLink "OutwardDoors" (422 : Nat) ({ cls := "OutwardDoors$Image", name := "back", desc := "()V" } : Jvm.MethodName)) ∈ lw_all := lw_g (lw_at lw_m5 238 rfl) rfl
theorem q2006 : (Jvm.Cond.castable "OutwardDoors" "java/lang/Object") ∈ lw_tbl := lw_at lw_m8 177 rfl
theorem q2036 : (Jvm.Cond.stringRef "OutwardDoors" (427 : Nat) "person") ∈ lw_tbl := lw_at lw_m8 207 rfl
theorem q2037 : (Jvm.Cond.stringRef "OutwardDoors" (429 : Nat) "room") ∈ lw_tbl := lw_at lw_m8 208 rfl
theorem q2038 : (Jvm.Cond.stringRef "OutwardDoors" (430 : Nat) "far") ∈ lw_tbl := lw_at lw_m8 209 rfl
theorem q2039 : (Jvm.Cond.stringRef "OutwardDoors" (431 : Nat) "goal") ∈ lw_tbl := lw_at lw_m8 210 rfl
theorem q2040 : (Jvm.Cond.stringRef "OutwardDoors" (432 : Nat) "left") ∈ lw_tbl := lw_at lw_m8 211 rfl
theorem q2041 : (Jvm.Cond.stringRef "OutwardDoors" (433 : Nat) "pay") ∈ lw_tbl := lw_at lw_m8 212 rfl
theorem q2042 : (Jvm.Cond.stringRef "OutwardDoors" (434 : Nat) "moment") ∈ lw_tbl := lw_at lw_m8 213 rfl
theorem q2043 : (Jvm.Cond.stringRef "OutwardDoors" (435 : Nat) "night") ∈ lw_tbl := lw_at lw_m8 214 rfl
theorem q2044 : (Jvm.Cond.stringRef "OutwardDoors" (437 : Nat) "here") ∈ lw_tbl := lw_at lw_m8 215 rfl
theorem q2045 : (Jvm.Cond.stringRef "OutwardDoors" (439 : Nat) "in") ∈ lw_tbl := lw_at lw_m8 216 rfl
theorem q2046 : (Jvm.Cond.stringRef "OutwardDoors" (440 : Nat) "out") ∈ lw_tbl := lw_at lw_m8 217 rfl
theorem q2047 : (Jvm.Cond.stringRef "OutwardDoors" (442 : Nat) "asked") ∈ lw_tbl := lw_at lw_m8 218 rfl
theorem in_X0 : ∀ w ∈ wsX00, w ∈ lw_all := lw_in wsX00 [402, 404, 406, 408, 410, 412, 414, 416, 418, 420, 422, 424, 426, 428, 430, 432, 434, 436, 438, 440, 442, 444, 446, 448, 450, 452, 454, 456, 458, 460, 462, 464] (by decide +kernel) (by decide +kernel)
