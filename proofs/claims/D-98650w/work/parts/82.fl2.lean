/-! facts of constructors, nest mates, abstract names -/
set_option maxRecDepth 100000
theorem fl_J3_7 : FL RJ3 7 3 0 := ⟨RX3, TX3, 7, rfl, by decide, by decide, rfl, in_X3, Or.inl ⟨_, q336, Or.inl rfl⟩⟩
theorem ft_J3_7 : FT 3 0 (.object "java/lang/Throwable") false RJ3 := ⟨RX3, TX3, 7, tyX3, rfl, tyX3_ok, nmX3, rfl, rfl, fun h => by cases h⟩
theorem fl_J3_17 : FL RJ3 17 3 1 := ⟨RX3, TX3, 7, rfl, by decide, by decide, rfl, in_X3, Or.inl ⟨_, q337, Or.inl rfl⟩⟩
theorem ft_J3_17 : FT 3 1 (.array (.object "java/lang/StackTraceElement")) false RJ3 := ⟨RX3, TX3, 7, tyX3, rfl, tyX3_ok, nmX3, rfl, rfl, fun h => by cases h⟩
theorem fl_J3_24 : FL RJ3 24 3 2 := ⟨RX3, TX3, 7, rfl, by decide, by decide, rfl, in_X3, Or.inl ⟨_, q338, Or.inl rfl⟩⟩
theorem ft_J3_24 : FT 3 2 (.object "java/util/List") false RJ3 := ⟨RX3, TX3, 7, tyX3, rfl, tyX3_ok, nmX3, rfl, rfl, fun h => by cases h⟩
theorem fl_J3_198 : FL RJ3 198 3 4 := ⟨RX3, TX3, 7, rfl, by decide, by decide, rfl, in_X3, Or.inl ⟨_, q335, Or.inl rfl⟩⟩
theorem ft_J3_198 : FT 3 4 (.object "java/lang/Object") false RJ3 := ⟨RX3, TX3, 7, tyX3, rfl, tyX3_ok, nmX3, rfl, rfl, fun h => by cases h⟩
theorem fl_J1_7 : FL RJ1 7 19 0 := ⟨RJ2, TJ2, 3, rfl, by decide, by decide, rfl, in_J2, Or.inl ⟨_, q217, Or.inl rfl⟩⟩
theorem ft_J1_7 : FT 19 0 .int false RJ1 := ⟨RJ2, TJ2, 3, tyJ2, rfl, tyJ2_ok, nmJ2, rfl, rfl, fun h => by cases h⟩
theorem o0_X0_3 : Cond.methodLink RX0 3 Lib.objectInit ∈ lw_all ∧ Cond.instanceMethod Lib.objectInit ∈ lw_all ∧ Cond.code Lib.objectInit ⟨#[0xb1]⟩ 1 none ∈ lw_all := ⟨q190, q191, q192⟩
theorem ci_X0_11 : CLI RX0 11 yX1_init cX1_init 2 0 := ⟨⟨lw_meth q197, q151, q196, Or.inl q195⟩, rfl, by decide +kernel⟩
theorem ci_X0_28 : CLI RX0 28 yJ2_init cJ2_init 2 1 := ⟨⟨lw_meth q203, q154, q202, Or.inl q289⟩, rfl, by decide +kernel⟩
theorem ci_X0_154 : CLI RX0 154 yX5_init cX5_init 4 3 := ⟨⟨lw_meth q490, q160, q489, Or.inl q488⟩, rfl, by decide +kernel⟩
theorem cu_X17_20_X15 : CLU RX17 20 RX15 RX14 ⟨RX14, "is", "([J)Z"⟩ yX15_is cX15_is 2 (some .boolean) 1 := ⟨⟨lw_app (fun w hw => by simp only [List.mem_cons, List.not_mem_nil, or_false] at hw; rcases hw with rfl | rfl | rfl | rfl | rfl <;> first | exact q1086 | exact q1082 | exact q1106 | exact q1102 | exact q180) (lw_meth q1103), q1081⟩, by decide +kernel⟩
theorem cu_X17_20_X16 : CLU RX17 20 RX16 RX14 ⟨RX14, "is", "([J)Z"⟩ yX16_is cX16_is 6 (some .boolean) 1 := ⟨⟨lw_app (fun w hw => by simp only [List.mem_cons, List.not_mem_nil, or_false] at hw; rcases hw with rfl | rfl | rfl | rfl | rfl <;> first | exact q1086 | exact q1082 | exact q1105 | exact q1087 | exact q181) (lw_meth q1088), q1081⟩, by decide +kernel⟩
theorem cu_X17_20_X17 : CLU RX17 20 RX17 RX14 ⟨RX14, "is", "([J)Z"⟩ yX17_is cX17_is 2 (some .boolean) 1 := ⟨⟨lw_app (fun w hw => by simp only [List.mem_cons, List.not_mem_nil, or_false] at hw; rcases hw with rfl | rfl | rfl | rfl | rfl <;> first | exact q1086 | exact q1082 | exact q1083 | exact q1084 | exact q182) (lw_meth q1085), q1081⟩, by decide +kernel⟩
theorem o0_X1_3 : Cond.methodLink RX1 3 Lib.objectInit ∈ lw_all ∧ Cond.instanceMethod Lib.objectInit ∈ lw_all ∧ Cond.code Lib.objectInit ⟨#[0xb1]⟩ 1 none ∈ lw_all := ⟨q198, q191, q192⟩
theorem ci_X1_11 : CLI RX1 11 yJ2_init cJ2_init 2 1 := ⟨⟨lw_meth q203, q154, q202, Or.inl q201⟩, rfl, by decide +kernel⟩
theorem cu_X16_24_X10 : CLU RX16 24 RX10 RX9 ⟨RX9, "of", "([J)J"⟩ yX10_of cX10_of 2 (some .long) 1 := ⟨⟨lw_app (fun w hw => by simp only [List.mem_cons, List.not_mem_nil, or_false] at hw; rcases hw with rfl | rfl | rfl | rfl | rfl <;> first | exact q1089 | exact q1091 | exact q1101 | exact q1099 | exact q175) (lw_meth q1100), q1090⟩, by decide +kernel⟩
theorem cu_X16_24_X11 : CLU RX16 24 RX11 RX9 ⟨RX9, "of", "([J)J"⟩ yX11_of cX11_of 2 (some .long) 1 := ⟨⟨lw_app (fun w hw => by simp only [List.mem_cons, List.not_mem_nil, or_false] at hw; rcases hw with rfl | rfl | rfl | rfl | rfl <;> first | exact q1089 | exact q1091 | exact q1092 | exact q1093 | exact q176) (lw_meth q1094), q1090⟩, by decide +kernel⟩
theorem cu_X16_24_X12 : CLU RX16 24 RX12 RX9 ⟨RX9, "of", "([J)J"⟩ yX12_of cX12_of 6 (some .long) 1 := ⟨⟨lw_app (fun w hw => by simp only [List.mem_cons, List.not_mem_nil, or_false] at hw; rcases hw with rfl | rfl | rfl | rfl | rfl <;> first | exact q1089 | exact q1091 | exact q1095 | exact q1096 | exact q177) (lw_meth q1097), q1090⟩, by decide +kernel⟩
theorem o0_X14_1 : Cond.methodLink RX14 1 Lib.objectInit ∈ lw_all ∧ Cond.instanceMethod Lib.objectInit ∈ lw_all ∧ Cond.code Lib.objectInit ⟨#[0xb1]⟩ 1 none ∈ lw_all := ⟨q893, q191, q192⟩
theorem ci_X6_1 : CLI RX6 1 yJ10_init cJ10_init 1 0 := ⟨⟨lw_meth q651, q166, q650, Or.inl q649⟩, rfl, by decide +kernel⟩
theorem o0_X18_9 : Cond.methodLink RX18 9 Lib.objectInit ∈ lw_all ∧ Cond.instanceMethod Lib.objectInit ∈ lw_all ∧ Cond.code Lib.objectInit ⟨#[0xb1]⟩ 1 none ∈ lw_all := ⟨q1307, q191, q192⟩
theorem cu_X12_20_X10 : CLU RX12 20 RX10 RX9 ⟨RX9, "of", "([J)J"⟩ yX10_of cX10_of 2 (some .long) 1 := ⟨⟨lw_app (fun w hw => by simp only [List.mem_cons, List.not_mem_nil, or_false] at hw; rcases hw with rfl | rfl | rfl | rfl | rfl <;> first | exact q1098 | exact q1091 | exact q1101 | exact q1099 | exact q175) (lw_meth q1100), q1090⟩, by decide +kernel⟩
theorem cu_X12_20_X11 : CLU RX12 20 RX11 RX9 ⟨RX9, "of", "([J)J"⟩ yX11_of cX11_of 2 (some .long) 1 := ⟨⟨lw_app (fun w hw => by simp only [List.mem_cons, List.not_mem_nil, or_false] at hw; rcases hw with rfl | rfl | rfl | rfl | rfl <;> first | exact q1098 | exact q1091 | exact q1092 | exact q1093 | exact q176) (lw_meth q1094), q1090⟩, by decide +kernel⟩
theorem cu_X12_20_X12 : CLU RX12 20 RX12 RX9 ⟨RX9, "of", "([J)J"⟩ yX12_of cX12_of 6 (some .long) 1 := ⟨⟨lw_app (fun w hw => by simp only [List.mem_cons, List.not_mem_nil, or_false] at hw; rcases hw with rfl | rfl | rfl | rfl | rfl <;> first | exact q1098 | exact q1091 | exact q1095 | exact q1096 | exact q177) (lw_meth q1097), q1090⟩, by decide +kernel⟩
theorem cu_X15_13_X15 : CLU RX15 13 RX15 RX14 ⟨RX14, "is", "([J)Z"⟩ yX15_is cX15_is 2 (some .boolean) 1 := ⟨⟨lw_app (fun w hw => by simp only [List.mem_cons, List.not_mem_nil, or_false] at hw; rcases hw with rfl | rfl | rfl | rfl | rfl <;> first | exact q1104 | exact q1082 | exact q1106 | exact q1102 | exact q180) (lw_meth q1103), q1081⟩, by decide +kernel⟩
theorem cu_X15_13_X16 : CLU RX15 13 RX16 RX14 ⟨RX14, "is", "([J)Z"⟩ yX16_is cX16_is 6 (some .boolean) 1 := ⟨⟨lw_app (fun w hw => by simp only [List.mem_cons, List.not_mem_nil, or_false] at hw; rcases hw with rfl | rfl | rfl | rfl | rfl <;> first | exact q1104 | exact q1082 | exact q1105 | exact q1087 | exact q181) (lw_meth q1088), q1081⟩, by decide +kernel⟩
theorem cu_X15_13_X17 : CLU RX15 13 RX17 RX14 ⟨RX14, "is", "([J)Z"⟩ yX17_is cX17_is 2 (some .boolean) 1 := ⟨⟨lw_app (fun w hw => by simp only [List.mem_cons, List.not_mem_nil, or_false] at hw; rcases hw with rfl | rfl | rfl | rfl | rfl <;> first | exact q1104 | exact q1082 | exact q1083 | exact q1084 | exact q182) (lw_meth q1085), q1081⟩, by decide +kernel⟩
theorem o0_X5_9 : Cond.methodLink RX5 9 Lib.objectInit ∈ lw_all ∧ Cond.instanceMethod Lib.objectInit ∈ lw_all ∧ Cond.code Lib.objectInit ⟨#[0xb1]⟩ 1 none ∈ lw_all := ⟨q491, q191, q192⟩
theorem ci_X5_86 : CLI RX5 86 yX10_init cX10_init 2 1 := ⟨⟨lw_meth q822, q175, q821, Or.inl q820⟩, rfl, by decide +kernel⟩
theorem ci_X5_94 : CLI RX5 94 yX11_init cX11_init 2 1 := ⟨⟨lw_meth q839, q176, q838, Or.inl q837⟩, rfl, by decide +kernel⟩
theorem ci_X5_101 : CLI RX5 101 yX12_init cX12_init 4 3 := ⟨⟨lw_meth q849, q177, q848, Or.inl q847⟩, rfl, by decide +kernel⟩
theorem ci_X5_118 : CLI RX5 118 yX15_init cX15_init 2 1 := ⟨⟨lw_meth q889, q180, q888, Or.inl q887⟩, rfl, by decide +kernel⟩
theorem ci_X5_129 : CLI RX5 129 yX16_init cX16_init 5 4 := ⟨⟨lw_meth q902, q181, q901, Or.inl q900⟩, rfl, by decide +kernel⟩
theorem ci_X5_139 : CLI RX5 139 yX17_init cX17_init 4 3 := ⟨⟨lw_meth q922, q182, q921, Or.inl q920⟩, rfl, by decide +kernel⟩
theorem ci_X5_239 : CLI RX5 239 yX1_init cX1_init 2 0 := ⟨⟨lw_meth q197, q151, q196, Or.inl q519⟩, rfl, by decide +kernel⟩
theorem ci_X7_1 : CLI RX7 1 yJ10_init cJ10_init 1 0 := ⟨⟨lw_meth q651, q166, q650, Or.inl q752⟩, rfl, by decide +kernel⟩
theorem o0_X8_1 : Cond.methodLink RX8 1 Lib.objectInit ∈ lw_all ∧ Cond.instanceMethod Lib.objectInit ∈ lw_all ∧ Cond.code Lib.objectInit ⟨#[0xb1]⟩ 1 none ∈ lw_all := ⟨q792, q191, q192⟩
theorem ci_X8_9 : CLI RX8 9 yJ2_init cJ2_init 2 1 := ⟨⟨lw_meth q203, q154, q202, Or.inl q794⟩, rfl, by decide +kernel⟩
theorem cu_X8_36_X10 : CLU RX8 36 RX10 RX9 ⟨RX9, "of", "([J)J"⟩ yX10_of cX10_of 2 (some .long) 1 := ⟨⟨lw_app (fun w hw => by simp only [List.mem_cons, List.not_mem_nil, or_false] at hw; rcases hw with rfl | rfl | rfl | rfl | rfl <;> first | exact q1107 | exact q1091 | exact q1101 | exact q1099 | exact q175) (lw_meth q1100), q1090⟩, by decide +kernel⟩
theorem cu_X8_36_X11 : CLU RX8 36 RX11 RX9 ⟨RX9, "of", "([J)J"⟩ yX11_of cX11_of 2 (some .long) 1 := ⟨⟨lw_app (fun w hw => by simp only [List.mem_cons, List.not_mem_nil, or_false] at hw; rcases hw with rfl | rfl | rfl | rfl | rfl <;> first | exact q1107 | exact q1091 | exact q1092 | exact q1093 | exact q176) (lw_meth q1094), q1090⟩, by decide +kernel⟩
theorem cu_X8_36_X12 : CLU RX8 36 RX12 RX9 ⟨RX9, "of", "([J)J"⟩ yX12_of cX12_of 6 (some .long) 1 := ⟨⟨lw_app (fun w hw => by simp only [List.mem_cons, List.not_mem_nil, or_false] at hw; rcases hw with rfl | rfl | rfl | rfl | rfl <;> first | exact q1107 | exact q1091 | exact q1095 | exact q1096 | exact q177) (lw_meth q1097), q1090⟩, by decide +kernel⟩
theorem o0_X2_3 : Cond.methodLink RX2 3 Lib.objectInit ∈ lw_all ∧ Cond.instanceMethod Lib.objectInit ∈ lw_all ∧ Cond.code Lib.objectInit ⟨#[0xb1]⟩ 1 none ∈ lw_all := ⟨q262, q191, q192⟩
theorem ci_X13_1 : CLI RX13 1 yJ10_init cJ10_init 1 0 := ⟨⟨lw_meth q651, q166, q650, Or.inl q938⟩, rfl, by decide +kernel⟩
theorem cu_X13_17_X15 : CLU RX13 17 RX15 RX14 ⟨RX14, "is", "([J)Z"⟩ yX15_is cX15_is 2 (some .boolean) 1 := ⟨⟨lw_app (fun w hw => by simp only [List.mem_cons, List.not_mem_nil, or_false] at hw; rcases hw with rfl | rfl | rfl | rfl | rfl <;> first | exact q1080 | exact q1082 | exact q1106 | exact q1102 | exact q180) (lw_meth q1103), q1081⟩, by decide +kernel⟩
theorem cu_X13_17_X16 : CLU RX13 17 RX16 RX14 ⟨RX14, "is", "([J)Z"⟩ yX16_is cX16_is 6 (some .boolean) 1 := ⟨⟨lw_app (fun w hw => by simp only [List.mem_cons, List.not_mem_nil, or_false] at hw; rcases hw with rfl | rfl | rfl | rfl | rfl <;> first | exact q1080 | exact q1082 | exact q1105 | exact q1087 | exact q181) (lw_meth q1088), q1081⟩, by decide +kernel⟩
theorem cu_X13_17_X17 : CLU RX13 17 RX17 RX14 ⟨RX14, "is", "([J)Z"⟩ yX17_is cX17_is 2 (some .boolean) 1 := ⟨⟨lw_app (fun w hw => by simp only [List.mem_cons, List.not_mem_nil, or_false] at hw; rcases hw with rfl | rfl | rfl | rfl | rfl <;> first | exact q1080 | exact q1082 | exact q1083 | exact q1084 | exact q182) (lw_meth q1085), q1081⟩, by decide +kernel⟩
theorem o0_X9_1 : Cond.methodLink RX9 1 Lib.objectInit ∈ lw_all ∧ Cond.instanceMethod Lib.objectInit ∈ lw_all ∧ Cond.code Lib.objectInit ⟨#[0xb1]⟩ 1 none ∈ lw_all := ⟨q826, q191, q192⟩
theorem ci_X3_1 : CLI RX3 1 yJ4_init cJ4_init 1 0 := ⟨⟨lw_meth q332, q157, q331, Or.inl q330⟩, rfl, by decide +kernel⟩
theorem o0_X4_1 : Cond.methodLink RX4 1 Lib.objectInit ∈ lw_all ∧ Cond.instanceMethod Lib.objectInit ∈ lw_all ∧ Cond.code Lib.objectInit ⟨#[0xb1]⟩ 1 none ∈ lw_all := ⟨q1356, q191, q192⟩
theorem ci_J4_1 : CLI RJ4 1 yJ3_init cJ3_init 1 0 := ⟨⟨lw_meth q312, q156, q311, Or.inl q333⟩, rfl, by decide +kernel⟩
theorem o0_J10_1 : Cond.methodLink RJ10 1 Lib.objectInit ∈ lw_all ∧ Cond.instanceMethod Lib.objectInit ∈ lw_all ∧ Cond.code Lib.objectInit ⟨#[0xb1]⟩ 1 none ∈ lw_all := ⟨q652, q191, q192⟩
theorem o0_J3_1 : Cond.methodLink RJ3 1 Lib.objectInit ∈ lw_all ∧ Cond.instanceMethod Lib.objectInit ∈ lw_all ∧ Cond.code Lib.objectInit ⟨#[0xb1]⟩ 1 none ∈ lw_all := ⟨q313, q191, q192⟩
theorem o0_J0_1 : Cond.methodLink RJ0 1 Lib.objectInit ∈ lw_all ∧ Cond.instanceMethod Lib.objectInit ∈ lw_all ∧ Cond.code Lib.objectInit ⟨#[0xb1]⟩ 1 none ∈ lw_all := ⟨q210, q191, q192⟩
theorem ci_J1_1 : CLI RJ1 1 yJ0_init cJ0_init 1 0 := ⟨⟨lw_meth q209, q152, q208, Or.inl q207⟩, rfl, by decide +kernel⟩
theorem ci_J2_1 : CLI RJ2 1 yJ1_init cJ1_init 1 0 := ⟨⟨lw_meth q206, q153, q205, Or.inl q204⟩, rfl, by decide +kernel⟩
theorem ci_X0_18 : CLI RX0 18 yX2_init cX2_init 1 0 := ⟨⟨lw_meth q261, q155, q260, Or.inr ⟨_, q259⟩⟩, rfl, by decide +kernel⟩
theorem ci_X0_41 : CLI RX0 41 yX3_init cX3_init 1 0 := ⟨⟨lw_meth q329, q158, q328, Or.inr ⟨_, q327⟩⟩, rfl, by decide +kernel⟩
theorem ci_X0_416 : CLI RX0 416 yX18_init cX18_init 2 1 := ⟨⟨lw_meth q1306, q184, q1305, Or.inr ⟨_, q1304⟩⟩, rfl, by decide +kernel⟩
theorem ci_X11_1 : CLI RX11 1 yX9_init cX9_init 1 0 := ⟨⟨lw_meth q825, q174, q824, Or.inr ⟨_, q840⟩⟩, rfl, by decide +kernel⟩
theorem ci_X17_1 : CLI RX17 1 yX14_init cX14_init 1 0 := ⟨⟨lw_meth q892, q179, q891, Or.inr ⟨_, q923⟩⟩, rfl, by decide +kernel⟩
theorem sn_X1_38 : CLSN RX1 38 yX0_in cX0_in 6 (some .boolean) 3 := ⟨⟨lw_meth q549, q150, q548, ⟨_, q979⟩⟩, by decide +kernel⟩
theorem ci_X16_1 : CLI RX16 1 yX14_init cX14_init 1 0 := ⟨⟨lw_meth q892, q179, q891, Or.inr ⟨_, q903⟩⟩, rfl, by decide +kernel⟩
theorem ci_X18_17 : CLI RX18 17 yX2_init cX2_init 1 0 := ⟨⟨lw_meth q261, q155, q260, Or.inr ⟨_, q1309⟩⟩, rfl, by decide +kernel⟩
theorem ci_X12_1 : CLI RX12 1 yX9_init cX9_init 1 0 := ⟨⟨lw_meth q825, q174, q824, Or.inr ⟨_, q850⟩⟩, rfl, by decide +kernel⟩
theorem ci_X15_1 : CLI RX15 1 yX14_init cX14_init 1 0 := ⟨⟨lw_meth q892, q179, q891, Or.inr ⟨_, q890⟩⟩, rfl, by decide +kernel⟩
theorem sn_X5_41 : CLSN RX5 41 yX0_in cX0_in 6 (some .boolean) 3 := ⟨⟨lw_meth q549, q150, q548, ⟨_, q547⟩⟩, by decide +kernel⟩
theorem vn_X5_69 : CLVN RX5 69 RX0 yX0_fails cX0_fails 3 (some (.object "OutwardDoors$Wrong")) 2 := ⟨⟨lw_meth q601, q150, q600, qs7, ⟨_, q598⟩⟩, by decide +kernel⟩
theorem ci_X5_169 : CLI RX5 169 yX6_init cX6_init 4 3 := ⟨⟨lw_meth q648, q167, q647, Or.inr ⟨_, q646⟩⟩, rfl, by decide +kernel⟩
theorem ci_X5_189 : CLI RX5 189 yX7_init cX7_init 4 3 := ⟨⟨lw_meth q751, q172, q750, Or.inr ⟨_, q749⟩⟩, rfl, by decide +kernel⟩
theorem ci_X5_236 : CLI RX5 236 yX13_init cX13_init 3 2 := ⟨⟨lw_meth q937, q178, q936, Or.inr ⟨_, q935⟩⟩, rfl, by decide +kernel⟩
theorem ci_X5_246 : CLI RX5 246 yX8_init cX8_init 1 0 := ⟨⟨lw_meth q791, q173, q790, Or.inr ⟨_, q789⟩⟩, rfl, by decide +kernel⟩
theorem ci_X10_1 : CLI RX10 1 yX9_init cX9_init 1 0 := ⟨⟨lw_meth q825, q174, q824, Or.inr ⟨_, q823⟩⟩, rfl, by decide +kernel⟩
