/-! facts of fields and call sites, by the entries of the pools -/
set_option maxRecDepth 100000
theorem fl_X0_12 : FL RX0 12 0 0 := ⟨RX0, TX0, 32, rfl, by decide, by decide, rfl, in_X0, Or.inl ⟨_, q359, Or.inl rfl⟩⟩
theorem ft_X0_12 : FT 0 0 (.object "OutwardDoors$Castle") false RX0 := ⟨RX0, TX0, 32, tyX0, rfl, tyX0_ok, nmX0, rfl, rfl, fun h => by cases h⟩
theorem fl_X0_19 : FL RX0 19 0 1 := ⟨RX0, TX0, 32, rfl, by decide, by decide, rfl, in_X0, Or.inl ⟨_, q361, Or.inl rfl⟩⟩
theorem ft_X0_19 : FT 0 1 (.object "OutwardDoors$State") true RX0 := ⟨RX0, TX0, 32, tyX0, rfl, tyX0_ok, nmX0, rfl, rfl, fun _ => rfl⟩
theorem fl_X0_23 : FL RX0 23 0 2 := ⟨RX0, TX0, 32, rfl, by decide, by decide, rfl, in_X0, Or.inl ⟨_, q362, Or.inl rfl⟩⟩
theorem ft_X0_23 : FT 0 2 (.object "OutwardDoors$State") true RX0 := ⟨RX0, TX0, 32, tyX0, rfl, tyX0_ok, nmX0, rfl, rfl, fun _ => rfl⟩
theorem fl_X0_31 : FL RX0 31 0 3 := ⟨RX0, TX0, 32, rfl, by decide, by decide, rfl, in_X0, Or.inl ⟨_, q363, Or.inl rfl⟩⟩
theorem ft_X0_31 : FT 0 3 (.object "java/util/ArrayList") true RX0 := ⟨RX0, TX0, 32, tyX0, rfl, tyX0_ok, nmX0, rfl, rfl, fun _ => rfl⟩
theorem fl_X0_35 : FL RX0 35 0 4 := ⟨RX0, TX0, 32, rfl, by decide, by decide, rfl, in_X0, Or.inl ⟨_, q366, Or.inl rfl⟩⟩
theorem ft_X0_35 : FT 0 4 .int false RX0 := ⟨RX0, TX0, 32, tyX0, rfl, tyX0_ok, nmX0, rfl, rfl, fun h => by cases h⟩
theorem fl_X0_42 : FL RX0 42 0 5 := ⟨RX0, TX0, 32, rfl, by decide, by decide, rfl, in_X0, Or.inl ⟨_, q367, Or.inl rfl⟩⟩
theorem ft_X0_42 : FT 0 5 (.object "OutwardDoors$Wrong") true RX0 := ⟨RX0, TX0, 32, tyX0, rfl, tyX0_ok, nmX0, rfl, rfl, fun _ => rfl⟩
theorem fl_X0_46 : FL RX0 46 0 6 := ⟨RX0, TX0, 32, rfl, by decide, by decide, rfl, in_X0, Or.inl ⟨_, q369, Or.inl rfl⟩⟩
theorem ft_X0_46 : FT 0 6 (.array .byte) true RX0 := ⟨RX0, TX0, 32, tyX0, rfl, tyX0_ok, nmX0, rfl, rfl, fun _ => rfl⟩
theorem fl_X0_50 : FL RX0 50 0 8 := ⟨RX0, TX0, 32, rfl, by decide, by decide, rfl, in_X0, Or.inl ⟨_, q373, Or.inl rfl⟩⟩
theorem ft_X0_50 : FT 0 8 (.array .int) true RX0 := ⟨RX0, TX0, 32, tyX0, rfl, tyX0_ok, nmX0, rfl, rfl, fun _ => rfl⟩
theorem fl_X0_54 : FL RX0 54 0 9 := ⟨RX0, TX0, 32, rfl, by decide, by decide, rfl, in_X0, Or.inl ⟨_, q375, Or.inl rfl⟩⟩
theorem ft_X0_54 : FT 0 9 (.array .int) true RX0 := ⟨RX0, TX0, 32, tyX0, rfl, tyX0_ok, nmX0, rfl, rfl, fun _ => rfl⟩
theorem fl_X0_57 : FL RX0 57 0 10 := ⟨RX0, TX0, 32, rfl, by decide, by decide, rfl, in_X0, Or.inl ⟨_, q377, Or.inl rfl⟩⟩
theorem ft_X0_57 : FT 0 10 (.array .int) true RX0 := ⟨RX0, TX0, 32, tyX0, rfl, tyX0_ok, nmX0, rfl, rfl, fun _ => rfl⟩
theorem fl_X0_60 : FL RX0 60 0 13 := ⟨RX0, TX0, 32, rfl, by decide, by decide, rfl, in_X0, Or.inl ⟨_, q382, Or.inl rfl⟩⟩
theorem ft_X0_60 : FT 0 13 (.array .int) true RX0 := ⟨RX0, TX0, 32, tyX0, rfl, tyX0_ok, nmX0, rfl, rfl, fun _ => rfl⟩
theorem fl_X0_67 : FL RX0 67 0 14 := ⟨RX0, TX0, 32, rfl, by decide, by decide, rfl, in_X0, Or.inl ⟨_, q383, Or.inl rfl⟩⟩
theorem ft_X0_67 : FT 0 14 (.array .long) true RX0 := ⟨RX0, TX0, 32, tyX0, rfl, tyX0_ok, nmX0, rfl, rfl, fun _ => rfl⟩
theorem fl_X0_71 : FL RX0 71 0 15 := ⟨RX0, TX0, 32, rfl, by decide, by decide, rfl, in_X0, Or.inl ⟨_, q384, Or.inl rfl⟩⟩
theorem ft_X0_71 : FT 0 15 (.array .int) true RX0 := ⟨RX0, TX0, 32, tyX0, rfl, tyX0_ok, nmX0, rfl, rfl, fun _ => rfl⟩
theorem fl_X0_74 : FL RX0 74 0 16 := ⟨RX0, TX0, 32, rfl, by decide, by decide, rfl, in_X0, Or.inl ⟨_, q385, Or.inl rfl⟩⟩
theorem ft_X0_74 : FT 0 16 (.array .int) true RX0 := ⟨RX0, TX0, 32, tyX0, rfl, tyX0_ok, nmX0, rfl, rfl, fun _ => rfl⟩
theorem fl_X0_77 : FL RX0 77 0 17 := ⟨RX0, TX0, 32, rfl, by decide, by decide, rfl, in_X0, Or.inl ⟨_, q386, Or.inl rfl⟩⟩
theorem ft_X0_77 : FT 0 17 (.array .int) true RX0 := ⟨RX0, TX0, 32, tyX0, rfl, tyX0_ok, nmX0, rfl, rfl, fun _ => rfl⟩
theorem fl_X0_80 : FL RX0 80 0 18 := ⟨RX0, TX0, 32, rfl, by decide, by decide, rfl, in_X0, Or.inl ⟨_, q387, Or.inl rfl⟩⟩
theorem ft_X0_80 : FT 0 18 (.array .int) true RX0 := ⟨RX0, TX0, 32, tyX0, rfl, tyX0_ok, nmX0, rfl, rfl, fun _ => rfl⟩
theorem fl_X0_87 : FL RX0 87 0 19 := ⟨RX0, TX0, 32, rfl, by decide, by decide, rfl, in_X0, Or.inl ⟨_, q388, Or.inl rfl⟩⟩
theorem ft_X0_87 : FT 0 19 (.array (.object "OutwardDoors$State")) true RX0 := ⟨RX0, TX0, 32, tyX0, rfl, tyX0_ok, nmX0, rfl, rfl, fun _ => rfl⟩
theorem fl_X0_92 : FL RX0 92 0 22 := ⟨RX0, TX0, 32, rfl, by decide, by decide, rfl, in_X0, Or.inl ⟨_, q392, Or.inl rfl⟩⟩
theorem ft_X0_92 : FT 0 22 (.array .int) true RX0 := ⟨RX0, TX0, 32, tyX0, rfl, tyX0_ok, nmX0, rfl, rfl, fun _ => rfl⟩
theorem fl_X0_95 : FL RX0 95 0 23 := ⟨RX0, TX0, 32, rfl, by decide, by decide, rfl, in_X0, Or.inl ⟨_, q393, Or.inl rfl⟩⟩
theorem ft_X0_95 : FT 0 23 (.array .int) true RX0 := ⟨RX0, TX0, 32, tyX0, rfl, tyX0_ok, nmX0, rfl, rfl, fun _ => rfl⟩
theorem fl_X0_98 : FL RX0 98 0 24 := ⟨RX0, TX0, 32, rfl, by decide, by decide, rfl, in_X0, Or.inl ⟨_, q394, Or.inl rfl⟩⟩
theorem ft_X0_98 : FT 0 24 (.array .int) true RX0 := ⟨RX0, TX0, 32, tyX0, rfl, tyX0_ok, nmX0, rfl, rfl, fun _ => rfl⟩
theorem fl_X0_101 : FL RX0 101 0 25 := ⟨RX0, TX0, 32, rfl, by decide, by decide, rfl, in_X0, Or.inl ⟨_, q395, Or.inl rfl⟩⟩
theorem ft_X0_101 : FT 0 25 (.array .int) true RX0 := ⟨RX0, TX0, 32, tyX0, rfl, tyX0_ok, nmX0, rfl, rfl, fun _ => rfl⟩
theorem fl_X0_104 : FL RX0 104 0 27 := ⟨RX0, TX0, 32, rfl, by decide, by decide, rfl, in_X0, Or.inl ⟨_, q397, Or.inl rfl⟩⟩
theorem ft_X0_104 : FT 0 27 .int false RX0 := ⟨RX0, TX0, 32, tyX0, rfl, tyX0_ok, nmX0, rfl, rfl, fun h => by cases h⟩
theorem fl_X0_107 : FL RX0 107 0 28 := ⟨RX0, TX0, 32, rfl, by decide, by decide, rfl, in_X0, Or.inl ⟨_, q398, Or.inl rfl⟩⟩
theorem ft_X0_107 : FT 0 28 (.array .int) true RX0 := ⟨RX0, TX0, 32, tyX0, rfl, tyX0_ok, nmX0, rfl, rfl, fun _ => rfl⟩
theorem fl_X0_110 : FL RX0 110 0 29 := ⟨RX0, TX0, 32, rfl, by decide, by decide, rfl, in_X0, Or.inl ⟨_, q399, Or.inl rfl⟩⟩
theorem ft_X0_110 : FT 0 29 (.array .boolean) true RX0 := ⟨RX0, TX0, 32, tyX0, rfl, tyX0_ok, nmX0, rfl, rfl, fun _ => rfl⟩
theorem fl_X0_114 : FL RX0 114 0 30 := ⟨RX0, TX0, 32, rfl, by decide, by decide, rfl, in_X0, Or.inl ⟨_, q400, Or.inl rfl⟩⟩
theorem ft_X0_114 : FT 0 30 (.array .int) true RX0 := ⟨RX0, TX0, 32, tyX0, rfl, tyX0_ok, nmX0, rfl, rfl, fun _ => rfl⟩
theorem fl_X0_119 : FL RX0 119 0 31 := ⟨RX0, TX0, 32, rfl, by decide, by decide, rfl, in_X0, Or.inl ⟨_, q401, Or.inl rfl⟩⟩
theorem ft_X0_119 : FT 0 31 (.array (.object "OutwardDoors$Image")) true RX0 := ⟨RX0, TX0, 32, tyX0, rfl, tyX0_ok, nmX0, rfl, rfl, fun _ => rfl⟩
theorem fl_X0_146 : FL RX0 146 0 7 := ⟨RX0, TX0, 32, rfl, by decide, by decide, rfl, in_X0, Or.inl ⟨_, q371, Or.inl rfl⟩⟩
theorem ft_X0_146 : FT 0 7 .int false RX0 := ⟨RX0, TX0, 32, tyX0, rfl, tyX0_ok, nmX0, rfl, rfl, fun h => by cases h⟩
theorem fl_X0_164 : FL RX0 164 0 11 := ⟨RX0, TX0, 32, rfl, by decide, by decide, rfl, in_X0, Or.inl ⟨_, q379, Or.inl rfl⟩⟩
theorem ft_X0_164 : FT 0 11 .int false RX0 := ⟨RX0, TX0, 32, tyX0, rfl, tyX0_ok, nmX0, rfl, rfl, fun h => by cases h⟩
theorem fl_X0_167 : FL RX0 167 0 20 := ⟨RX0, TX0, 32, rfl, by decide, by decide, rfl, in_X0, Or.inl ⟨_, q390, Or.inl rfl⟩⟩
theorem ft_X0_167 : FT 0 20 .int false RX0 := ⟨RX0, TX0, 32, tyX0, rfl, tyX0_ok, nmX0, rfl, rfl, fun h => by cases h⟩
theorem fl_X0_306 : FL RX0 306 0 21 := ⟨RX0, TX0, 32, rfl, by decide, by decide, rfl, in_X0, Or.inl ⟨_, q391, Or.inl rfl⟩⟩
theorem ft_X0_306 : FT 0 21 .int false RX0 := ⟨RX0, TX0, 32, tyX0, rfl, tyX0_ok, nmX0, rfl, rfl, fun h => by cases h⟩
theorem fl_X0_328 : FL RX0 328 0 26 := ⟨RX0, TX0, 32, rfl, by decide, by decide, rfl, in_X0, Or.inl ⟨_, q396, Or.inl rfl⟩⟩
theorem ft_X0_328 : FT 0 26 .int false RX0 := ⟨RX0, TX0, 32, tyX0, rfl, tyX0_ok, nmX0, rfl, rfl, fun h => by cases h⟩
theorem fl_X0_390 : FL RX0 390 0 12 := ⟨RX0, TX0, 32, rfl, by decide, by decide, rfl, in_X0, Or.inl ⟨_, q381, Or.inl rfl⟩⟩
theorem ft_X0_390 : FT 0 12 .int false RX0 := ⟨RX0, TX0, 32, tyX0, rfl, tyX0_ok, nmX0, rfl, rfl, fun h => by cases h⟩
theorem fl_X11_7 : FL RX11 7 11 0 := ⟨RX11, TX11, 1, rfl, by decide, by decide, rfl, in_X11, Or.inl ⟨_, q841, Or.inl rfl⟩⟩
theorem ft_X11_7 : FT 11 0 .int true RX11 := ⟨RX11, TX11, 1, tyX11, rfl, tyX11_ok, nmX11, rfl, rfl, fun _ => rfl⟩
theorem fl_X17_7 : FL RX17 7 17 0 := ⟨RX17, TX17, 3, rfl, by decide, by decide, rfl, in_X17, Or.inl ⟨_, q924, Or.inl rfl⟩⟩
theorem ft_X17_7 : FT 17 0 (.object "OutwardDoors$Condition") true RX17 := ⟨RX17, TX17, 3, tyX17, rfl, tyX17_ok, nmX17, rfl, rfl, fun _ => rfl⟩
theorem fl_X17_13 : FL RX17 13 17 1 := ⟨RX17, TX17, 3, rfl, by decide, by decide, rfl, in_X17, Or.inl ⟨_, q925, Or.inl rfl⟩⟩
theorem ft_X17_13 : FT 17 1 (.object "OutwardDoors$Condition") true RX17 := ⟨RX17, TX17, 3, tyX17, rfl, tyX17_ok, nmX17, rfl, rfl, fun _ => rfl⟩
theorem fl_X17_16 : FL RX17 16 17 2 := ⟨RX17, TX17, 3, rfl, by decide, by decide, rfl, in_X17, Or.inl ⟨_, q926, Or.inl rfl⟩⟩
theorem ft_X17_16 : FT 17 2 .boolean true RX17 := ⟨RX17, TX17, 3, tyX17, rfl, tyX17_ok, nmX17, rfl, rfl, fun _ => rfl⟩
theorem fl_X1_14 : FL RX1 14 1 0 := ⟨RX1, TX1, 6, rfl, by decide, by decide, rfl, in_X1, Or.inl ⟨_, q227, Or.inl rfl⟩⟩
theorem ft_X1_14 : FT 1 0 (.object "java/util/ArrayList") true RX1 := ⟨RX1, TX1, 6, tyX1, rfl, tyX1_ok, nmX1, rfl, rfl, fun _ => rfl⟩
theorem fl_X1_20 : FL RX1 20 1 1 := ⟨RX1, TX1, 6, rfl, by decide, by decide, rfl, in_X1, Or.inl ⟨_, q231, Or.inl rfl⟩⟩
theorem ft_X1_20 : FT 1 1 (.object "java/util/ArrayList") true RX1 := ⟨RX1, TX1, 6, tyX1, rfl, tyX1_ok, nmX1, rfl, rfl, fun _ => rfl⟩
theorem fl_X1_23 : FL RX1 23 1 2 := ⟨RX1, TX1, 6, rfl, by decide, by decide, rfl, in_X1, Or.inl ⟨_, q234, Or.inl rfl⟩⟩
theorem ft_X1_23 : FT 1 2 (.array .int) true RX1 := ⟨RX1, TX1, 6, tyX1, rfl, tyX1_ok, nmX1, rfl, rfl, fun _ => rfl⟩
theorem fl_X1_27 : FL RX1 27 1 4 := ⟨RX1, TX1, 6, rfl, by decide, by decide, rfl, in_X1, Or.inl ⟨_, q239, Or.inl rfl⟩⟩
theorem ft_X1_27 : FT 1 4 .int false RX1 := ⟨RX1, TX1, 6, tyX1, rfl, tyX1_ok, nmX1, rfl, rfl, fun h => by cases h⟩
theorem fl_X1_31 : FL RX1 31 1 5 := ⟨RX1, TX1, 6, rfl, by decide, by decide, rfl, in_X1, Or.inl ⟨_, q241, Or.inl rfl⟩⟩
theorem ft_X1_31 : FT 1 5 .int false RX1 := ⟨RX1, TX1, 6, tyX1, rfl, tyX1_ok, nmX1, rfl, rfl, fun h => by cases h⟩
theorem fl_X16_7 : FL RX16 7 16 0 := ⟨RX16, TX16, 4, rfl, by decide, by decide, rfl, in_X16, Or.inl ⟨_, q904, Or.inl rfl⟩⟩
theorem ft_X16_7 : FT 16 0 (.object "OutwardDoors$Value") true RX16 := ⟨RX16, TX16, 4, tyX16, rfl, tyX16_ok, nmX16, rfl, rfl, fun _ => rfl⟩
theorem fl_X16_13 : FL RX16 13 16 1 := ⟨RX16, TX16, 4, rfl, by decide, by decide, rfl, in_X16, Or.inl ⟨_, q905, Or.inl rfl⟩⟩
theorem ft_X16_13 : FT 16 1 (.object "OutwardDoors$Value") true RX16 := ⟨RX16, TX16, 4, tyX16, rfl, tyX16_ok, nmX16, rfl, rfl, fun _ => rfl⟩
theorem fl_X16_16 : FL RX16 16 16 2 := ⟨RX16, TX16, 4, rfl, by decide, by decide, rfl, in_X16, Or.inl ⟨_, q906, Or.inl rfl⟩⟩
theorem ft_X16_16 : FT 16 2 .int true RX16 := ⟨RX16, TX16, 4, tyX16, rfl, tyX16_ok, nmX16, rfl, rfl, fun _ => rfl⟩
theorem fl_X16_20 : FL RX16 20 16 3 := ⟨RX16, TX16, 4, rfl, by decide, by decide, rfl, in_X16, Or.inl ⟨_, q907, Or.inl rfl⟩⟩
theorem ft_X16_20 : FT 16 3 .boolean true RX16 := ⟨RX16, TX16, 4, tyX16, rfl, tyX16_ok, nmX16, rfl, rfl, fun _ => rfl⟩
theorem fl_X6_7 : FL RX6 7 6 0 := ⟨RX6, TX6, 3, rfl, by decide, by decide, rfl, in_X6, Or.inl ⟨_, q653, Or.inl rfl⟩⟩
theorem ft_X6_7 : FT 6 0 .int true RX6 := ⟨RX6, TX6, 3, tyX6, rfl, tyX6_ok, nmX6, rfl, rfl, fun _ => rfl⟩
theorem fl_X6_13 : FL RX6 13 6 1 := ⟨RX6, TX6, 3, rfl, by decide, by decide, rfl, in_X6, Or.inl ⟨_, q655, Or.inl rfl⟩⟩
theorem ft_X6_13 : FT 6 1 .int true RX6 := ⟨RX6, TX6, 3, tyX6, rfl, tyX6_ok, nmX6, rfl, rfl, fun _ => rfl⟩
theorem fl_X6_16 : FL RX6 16 6 2 := ⟨RX6, TX6, 3, rfl, by decide, by decide, rfl, in_X6, Or.inl ⟨_, q657, Or.inl rfl⟩⟩
theorem ft_X6_16 : FT 6 2 .boolean true RX6 := ⟨RX6, TX6, 3, tyX6, rfl, tyX6_ok, nmX6, rfl, rfl, fun _ => rfl⟩
theorem fl_X18_3 : FL RX18 3 18 8 := ⟨RX18, TX18, 9, rfl, by decide, by decide, rfl, in_X18, Or.inl ⟨_, q1318, Or.inl rfl⟩⟩
theorem ft_X18_3 : FT 18 8 (.object "OutwardDoors") true RX18 := ⟨RX18, TX18, 9, tyX18, rfl, tyX18_ok, nmX18, rfl, rfl, fun _ => rfl⟩
theorem fl_X18_18 : FL RX18 18 18 1 := ⟨RX18, TX18, 9, rfl, by decide, by decide, rfl, in_X18, Or.inl ⟨_, q1311, Or.inl rfl⟩⟩
theorem ft_X18_18 : FT 18 1 (.object "OutwardDoors$State") true RX18 := ⟨RX18, TX18, 9, tyX18, rfl, tyX18_ok, nmX18, rfl, rfl, fun _ => rfl⟩
theorem fl_X18_22 : FL RX18 22 18 2 := ⟨RX18, TX18, 9, rfl, by decide, by decide, rfl, in_X18, Or.inl ⟨_, q1312, Or.inl rfl⟩⟩
theorem ft_X18_22 : FT 18 2 (.array .int) true RX18 := ⟨RX18, TX18, 9, tyX18, rfl, tyX18_ok, nmX18, rfl, rfl, fun _ => rfl⟩
theorem fl_X18_26 : FL RX18 26 18 3 := ⟨RX18, TX18, 9, rfl, by decide, by decide, rfl, in_X18, Or.inl ⟨_, q1313, Or.inl rfl⟩⟩
theorem ft_X18_26 : FT 18 3 (.array .int) true RX18 := ⟨RX18, TX18, 9, tyX18, rfl, tyX18_ok, nmX18, rfl, rfl, fun _ => rfl⟩
theorem fl_X18_29 : FL RX18 29 18 4 := ⟨RX18, TX18, 9, rfl, by decide, by decide, rfl, in_X18, Or.inl ⟨_, q1314, Or.inl rfl⟩⟩
theorem ft_X18_29 : FT 18 4 (.array .int) true RX18 := ⟨RX18, TX18, 9, tyX18, rfl, tyX18_ok, nmX18, rfl, rfl, fun _ => rfl⟩
theorem fl_X18_36 : FL RX18 36 18 0 := ⟨RX18, TX18, 9, rfl, by decide, by decide, rfl, in_X18, Or.inl ⟨_, q1310, Or.inl rfl⟩⟩
theorem ft_X18_36 : FT 18 0 (.object "OutwardDoors$Castle") false RX18 := ⟨RX18, TX18, 9, tyX18, rfl, tyX18_ok, nmX18, rfl, rfl, fun h => by cases h⟩
theorem fl_X18_59 : FL RX18 59 18 5 := ⟨RX18, TX18, 9, rfl, by decide, by decide, rfl, in_X18, Or.inl ⟨_, q1315, Or.inl rfl⟩⟩
theorem ft_X18_59 : FT 18 5 .int false RX18 := ⟨RX18, TX18, 9, tyX18, rfl, tyX18_ok, nmX18, rfl, rfl, fun h => by cases h⟩
theorem fl_X18_65 : FL RX18 65 18 6 := ⟨RX18, TX18, 9, rfl, by decide, by decide, rfl, in_X18, Or.inl ⟨_, q1316, Or.inl rfl⟩⟩
theorem ft_X18_65 : FT 18 6 .int false RX18 := ⟨RX18, TX18, 9, tyX18, rfl, tyX18_ok, nmX18, rfl, rfl, fun h => by cases h⟩
theorem fl_X18_71 : FL RX18 71 18 7 := ⟨RX18, TX18, 9, rfl, by decide, by decide, rfl, in_X18, Or.inl ⟨_, q1317, Or.inl rfl⟩⟩
theorem ft_X18_71 : FT 18 7 .int false RX18 := ⟨RX18, TX18, 9, tyX18, rfl, tyX18_ok, nmX18, rfl, rfl, fun h => by cases h⟩
theorem fl_X12_7 : FL RX12 7 12 0 := ⟨RX12, TX12, 3, rfl, by decide, by decide, rfl, in_X12, Or.inl ⟨_, q851, Or.inl rfl⟩⟩
theorem ft_X12_7 : FT 12 0 (.object "OutwardDoors$Value") true RX12 := ⟨RX12, TX12, 3, tyX12, rfl, tyX12_ok, nmX12, rfl, rfl, fun _ => rfl⟩
theorem fl_X12_13 : FL RX12 13 12 1 := ⟨RX12, TX12, 3, rfl, by decide, by decide, rfl, in_X12, Or.inl ⟨_, q852, Or.inl rfl⟩⟩
theorem ft_X12_13 : FT 12 1 (.object "OutwardDoors$Value") true RX12 := ⟨RX12, TX12, 3, tyX12, rfl, tyX12_ok, nmX12, rfl, rfl, fun _ => rfl⟩
theorem fl_X12_16 : FL RX12 16 12 2 := ⟨RX12, TX12, 3, rfl, by decide, by decide, rfl, in_X12, Or.inl ⟨_, q853, Or.inl rfl⟩⟩
theorem ft_X12_16 : FT 12 2 .int true RX12 := ⟨RX12, TX12, 3, tyX12, rfl, tyX12_ok, nmX12, rfl, rfl, fun _ => rfl⟩
theorem fl_X15_7 : FL RX15 7 15 0 := ⟨RX15, TX15, 1, rfl, by decide, by decide, rfl, in_X15, Or.inl ⟨_, q894, Or.inl rfl⟩⟩
theorem ft_X15_7 : FT 15 0 (.object "OutwardDoors$Condition") true RX15 := ⟨RX15, TX15, 1, tyX15, rfl, tyX15_ok, nmX15, rfl, rfl, fun _ => rfl⟩
theorem fl_X5_3 : FL RX5 3 5 6 := ⟨RX5, TX5, 7, rfl, by decide, by decide, rfl, in_X5, Or.inl ⟨_, q498, Or.inl rfl⟩⟩
theorem ft_X5_3 : FT 5 6 (.object "OutwardDoors") true RX5 := ⟨RX5, TX5, 7, tyX5, rfl, tyX5_ok, nmX5, rfl, rfl, fun _ => rfl⟩
theorem fl_X5_15 : FL RX5 15 5 0 := ⟨RX5, TX5, 7, rfl, by decide, by decide, rfl, in_X5, Or.inl ⟨_, q492, Or.inl rfl⟩⟩
theorem ft_X5_15 : FT 5 0 (.array (.object "java/lang/String")) true RX5 := ⟨RX5, TX5, 7, tyX5, rfl, tyX5_ok, nmX5, rfl, rfl, fun _ => rfl⟩
theorem fl_X5_19 : FL RX5 19 5 5 := ⟨RX5, TX5, 7, rfl, by decide, by decide, rfl, in_X5, Or.inl ⟨_, q497, Or.inl rfl⟩⟩
theorem ft_X5_19 : FT 5 5 .int true RX5 := ⟨RX5, TX5, 7, tyX5, rfl, tyX5_ok, nmX5, rfl, rfl, fun _ => rfl⟩
theorem fl_X5_23 : FL RX5 23 5 1 := ⟨RX5, TX5, 7, rfl, by decide, by decide, rfl, in_X5, Or.inl ⟨_, q493, Or.inl rfl⟩⟩
theorem ft_X5_23 : FT 5 1 .int false RX5 := ⟨RX5, TX5, 7, tyX5, rfl, tyX5_ok, nmX5, rfl, rfl, fun h => by cases h⟩
theorem fl_X5_73 : FL RX5 73 5 3 := ⟨RX5, TX5, 7, rfl, by decide, by decide, rfl, in_X5, Or.inl ⟨_, q495, Or.inl rfl⟩⟩
theorem ft_X5_73 : FT 5 3 .int false RX5 := ⟨RX5, TX5, 7, tyX5, rfl, tyX5_ok, nmX5, rfl, rfl, fun h => by cases h⟩
theorem fl_X5_76 : FL RX5 76 5 2 := ⟨RX5, TX5, 7, rfl, by decide, by decide, rfl, in_X5, Or.inl ⟨_, q494, Or.inl rfl⟩⟩
theorem ft_X5_76 : FT 5 2 .int false RX5 := ⟨RX5, TX5, 7, tyX5, rfl, tyX5_ok, nmX5, rfl, rfl, fun h => by cases h⟩
theorem fl_X5_147 : FL RX5 147 5 4 := ⟨RX5, TX5, 7, rfl, by decide, by decide, rfl, in_X5, Or.inl ⟨_, q496, Or.inl rfl⟩⟩
theorem ft_X5_147 : FT 5 4 .int false RX5 := ⟨RX5, TX5, 7, tyX5, rfl, tyX5_ok, nmX5, rfl, rfl, fun h => by cases h⟩
theorem fl_X7_7 : FL RX7 7 7 0 := ⟨RX7, TX7, 3, rfl, by decide, by decide, rfl, in_X7, Or.inl ⟨_, q753, Or.inl rfl⟩⟩
theorem ft_X7_7 : FT 7 0 .int true RX7 := ⟨RX7, TX7, 3, tyX7, rfl, tyX7_ok, nmX7, rfl, rfl, fun _ => rfl⟩
theorem fl_X7_13 : FL RX7 13 7 1 := ⟨RX7, TX7, 3, rfl, by decide, by decide, rfl, in_X7, Or.inl ⟨_, q755, Or.inl rfl⟩⟩
theorem ft_X7_13 : FT 7 1 .int true RX7 := ⟨RX7, TX7, 3, tyX7, rfl, tyX7_ok, nmX7, rfl, rfl, fun _ => rfl⟩
theorem fl_X7_16 : FL RX7 16 7 2 := ⟨RX7, TX7, 3, rfl, by decide, by decide, rfl, in_X7, Or.inl ⟨_, q757, Or.inl rfl⟩⟩
theorem ft_X7_16 : FT 7 2 .int true RX7 := ⟨RX7, TX7, 3, tyX7, rfl, tyX7_ok, nmX7, rfl, rfl, fun _ => rfl⟩
theorem fl_X10_7 : FL RX10 7 10 0 := ⟨RX10, TX10, 1, rfl, by decide, by decide, rfl, in_X10, Or.inl ⟨_, q827, Or.inl rfl⟩⟩
theorem ft_X10_7 : FT 10 0 .int true RX10 := ⟨RX10, TX10, 1, tyX10, rfl, tyX10_ok, nmX10, rfl, rfl, fun _ => rfl⟩
theorem fl_X8_12 : FL RX8 12 8 0 := ⟨RX8, TX8, 1, rfl, by decide, by decide, rfl, in_X8, Or.inl ⟨_, q795, Or.inl rfl⟩⟩
theorem ft_X8_12 : FT 8 0 (.object "java/util/ArrayList") true RX8 := ⟨RX8, TX8, 1, tyX8, rfl, tyX8_ok, nmX8, rfl, rfl, fun _ => rfl⟩
theorem fl_X2_9 : FL RX2 9 2 0 := ⟨RX2, TX2, 6, rfl, by decide, by decide, rfl, in_X2, Or.inl ⟨_, q263, Or.inl rfl⟩⟩
theorem ft_X2_9 : FT 2 0 (.array .int) true RX2 := ⟨RX2, TX2, 6, tyX2, rfl, tyX2_ok, nmX2, rfl, rfl, fun _ => rfl⟩
theorem fl_X2_15 : FL RX2 15 2 1 := ⟨RX2, TX2, 6, rfl, by decide, by decide, rfl, in_X2, Or.inl ⟨_, q265, Or.inl rfl⟩⟩
theorem ft_X2_15 : FT 2 1 (.array .int) true RX2 := ⟨RX2, TX2, 6, tyX2, rfl, tyX2_ok, nmX2, rfl, rfl, fun _ => rfl⟩
theorem fl_X2_18 : FL RX2 18 2 2 := ⟨RX2, TX2, 6, rfl, by decide, by decide, rfl, in_X2, Or.inl ⟨_, q267, Or.inl rfl⟩⟩
theorem ft_X2_18 : FT 2 2 (.array .int) true RX2 := ⟨RX2, TX2, 6, tyX2, rfl, tyX2_ok, nmX2, rfl, rfl, fun _ => rfl⟩
theorem fl_X2_21 : FL RX2 21 2 3 := ⟨RX2, TX2, 6, rfl, by decide, by decide, rfl, in_X2, Or.inl ⟨_, q269, Or.inl rfl⟩⟩
theorem ft_X2_21 : FT 2 3 (.array .int) true RX2 := ⟨RX2, TX2, 6, tyX2, rfl, tyX2_ok, nmX2, rfl, rfl, fun _ => rfl⟩
theorem fl_X2_24 : FL RX2 24 2 4 := ⟨RX2, TX2, 6, rfl, by decide, by decide, rfl, in_X2, Or.inl ⟨_, q271, Or.inl rfl⟩⟩
theorem ft_X2_24 : FT 2 4 (.array .int) true RX2 := ⟨RX2, TX2, 6, tyX2, rfl, tyX2_ok, nmX2, rfl, rfl, fun _ => rfl⟩
theorem fl_X2_27 : FL RX2 27 2 5 := ⟨RX2, TX2, 6, rfl, by decide, by decide, rfl, in_X2, Or.inl ⟨_, q273, Or.inl rfl⟩⟩
theorem ft_X2_27 : FT 2 5 .int false RX2 := ⟨RX2, TX2, 6, tyX2, rfl, tyX2_ok, nmX2, rfl, rfl, fun h => by cases h⟩
theorem fl_X13_7 : FL RX13 7 13 0 := ⟨RX13, TX13, 2, rfl, by decide, by decide, rfl, in_X13, Or.inl ⟨_, q939, Or.inl rfl⟩⟩
theorem ft_X13_7 : FT 13 0 (.object "OutwardDoors$Value") true RX13 := ⟨RX13, TX13, 2, tyX13, rfl, tyX13_ok, nmX13, rfl, rfl, fun _ => rfl⟩
theorem fl_X13_13 : FL RX13 13 13 1 := ⟨RX13, TX13, 2, rfl, by decide, by decide, rfl, in_X13, Or.inl ⟨_, q941, Or.inl rfl⟩⟩
theorem ft_X13_13 : FT 13 1 (.object "OutwardDoors$Condition") true RX13 := ⟨RX13, TX13, 2, tyX13, rfl, tyX13_ok, nmX13, rfl, rfl, fun _ => rfl⟩
theorem fl_X4_7 : FL RX4 7 4 0 := ⟨RX4, TX4, 44, rfl, by decide, by decide, rfl, in_X4, Or.inl ⟨_, q1358, Or.inl rfl⟩⟩
theorem ft_X4_7 : FT 4 0 (.array .byte) true RX4 := ⟨RX4, TX4, 44, tyX4, rfl, tyX4_ok, nmX4, rfl, rfl, fun _ => rfl⟩
theorem fl_X4_13 : FL RX4 13 4 3 := ⟨RX4, TX4, 44, rfl, by decide, by decide, rfl, in_X4, Or.inl ⟨_, q1361, Or.inl rfl⟩⟩
theorem ft_X4_13 : FT 4 3 (.array .int) true RX4 := ⟨RX4, TX4, 44, tyX4, rfl, tyX4_ok, nmX4, rfl, rfl, fun _ => rfl⟩
theorem fl_X4_17 : FL RX4 17 4 4 := ⟨RX4, TX4, 44, rfl, by decide, by decide, rfl, in_X4, Or.inl ⟨_, q1362, Or.inl rfl⟩⟩
theorem ft_X4_17 : FT 4 4 (.array .int) true RX4 := ⟨RX4, TX4, 44, tyX4, rfl, tyX4_ok, nmX4, rfl, rfl, fun _ => rfl⟩
theorem fl_X4_20 : FL RX4 20 4 5 := ⟨RX4, TX4, 44, rfl, by decide, by decide, rfl, in_X4, Or.inl ⟨_, q1363, Or.inl rfl⟩⟩
theorem ft_X4_20 : FT 4 5 (.array .int) true RX4 := ⟨RX4, TX4, 44, tyX4, rfl, tyX4_ok, nmX4, rfl, rfl, fun _ => rfl⟩
theorem fl_X4_23 : FL RX4 23 4 6 := ⟨RX4, TX4, 44, rfl, by decide, by decide, rfl, in_X4, Or.inl ⟨_, q1364, Or.inl rfl⟩⟩
theorem ft_X4_23 : FT 4 6 (.array .int) true RX4 := ⟨RX4, TX4, 44, tyX4, rfl, tyX4_ok, nmX4, rfl, rfl, fun _ => rfl⟩
theorem fl_X4_26 : FL RX4 26 4 7 := ⟨RX4, TX4, 44, rfl, by decide, by decide, rfl, in_X4, Or.inl ⟨_, q1365, Or.inl rfl⟩⟩
theorem ft_X4_26 : FT 4 7 (.array .int) true RX4 := ⟨RX4, TX4, 44, tyX4, rfl, tyX4_ok, nmX4, rfl, rfl, fun _ => rfl⟩
theorem fl_X4_29 : FL RX4 29 4 15 := ⟨RX4, TX4, 44, rfl, by decide, by decide, rfl, in_X4, Or.inl ⟨_, q1373, Or.inl rfl⟩⟩
theorem ft_X4_29 : FT 4 15 (.array .int) true RX4 := ⟨RX4, TX4, 44, tyX4, rfl, tyX4_ok, nmX4, rfl, rfl, fun _ => rfl⟩
theorem fl_X4_32 : FL RX4 32 4 17 := ⟨RX4, TX4, 44, rfl, by decide, by decide, rfl, in_X4, Or.inl ⟨_, q1375, Or.inl rfl⟩⟩
theorem ft_X4_32 : FT 4 17 (.array .long) true RX4 := ⟨RX4, TX4, 44, tyX4, rfl, tyX4_ok, nmX4, rfl, rfl, fun _ => rfl⟩
theorem fl_X4_36 : FL RX4 36 4 19 := ⟨RX4, TX4, 44, rfl, by decide, by decide, rfl, in_X4, Or.inl ⟨_, q1377, Or.inl rfl⟩⟩
theorem ft_X4_36 : FT 4 19 (.array .long) true RX4 := ⟨RX4, TX4, 44, tyX4, rfl, tyX4_ok, nmX4, rfl, rfl, fun _ => rfl⟩
theorem fl_X4_39 : FL RX4 39 4 20 := ⟨RX4, TX4, 44, rfl, by decide, by decide, rfl, in_X4, Or.inl ⟨_, q1378, Or.inl rfl⟩⟩
theorem ft_X4_39 : FT 4 20 (.array .int) true RX4 := ⟨RX4, TX4, 44, tyX4, rfl, tyX4_ok, nmX4, rfl, rfl, fun _ => rfl⟩
theorem fl_X4_42 : FL RX4 42 4 21 := ⟨RX4, TX4, 44, rfl, by decide, by decide, rfl, in_X4, Or.inl ⟨_, q1379, Or.inl rfl⟩⟩
theorem ft_X4_42 : FT 4 21 .int false RX4 := ⟨RX4, TX4, 44, tyX4, rfl, tyX4_ok, nmX4, rfl, rfl, fun h => by cases h⟩
theorem fl_X4_46 : FL RX4 46 4 23 := ⟨RX4, TX4, 44, rfl, by decide, by decide, rfl, in_X4, Or.inl ⟨_, q1381, Or.inl rfl⟩⟩
theorem ft_X4_46 : FT 4 23 (.array .int) true RX4 := ⟨RX4, TX4, 44, tyX4, rfl, tyX4_ok, nmX4, rfl, rfl, fun _ => rfl⟩
theorem fl_X4_49 : FL RX4 49 4 24 := ⟨RX4, TX4, 44, rfl, by decide, by decide, rfl, in_X4, Or.inl ⟨_, q1382, Or.inl rfl⟩⟩
theorem ft_X4_49 : FT 4 24 (.array .int) true RX4 := ⟨RX4, TX4, 44, tyX4, rfl, tyX4_ok, nmX4, rfl, rfl, fun _ => rfl⟩
theorem fl_X4_52 : FL RX4 52 4 25 := ⟨RX4, TX4, 44, rfl, by decide, by decide, rfl, in_X4, Or.inl ⟨_, q1383, Or.inl rfl⟩⟩
theorem ft_X4_52 : FT 4 25 (.array .boolean) true RX4 := ⟨RX4, TX4, 44, tyX4, rfl, tyX4_ok, nmX4, rfl, rfl, fun _ => rfl⟩
theorem fl_X4_56 : FL RX4 56 4 26 := ⟨RX4, TX4, 44, rfl, by decide, by decide, rfl, in_X4, Or.inl ⟨_, q1384, Or.inl rfl⟩⟩
theorem ft_X4_56 : FT 4 26 (.array .int) true RX4 := ⟨RX4, TX4, 44, tyX4, rfl, tyX4_ok, nmX4, rfl, rfl, fun _ => rfl⟩
theorem fl_X4_59 : FL RX4 59 4 28 := ⟨RX4, TX4, 44, rfl, by decide, by decide, rfl, in_X4, Or.inl ⟨_, q1386, Or.inl rfl⟩⟩
theorem ft_X4_59 : FT 4 28 (.array .int) true RX4 := ⟨RX4, TX4, 44, tyX4, rfl, tyX4_ok, nmX4, rfl, rfl, fun _ => rfl⟩
theorem fl_X4_63 : FL RX4 63 4 29 := ⟨RX4, TX4, 44, rfl, by decide, by decide, rfl, in_X4, Or.inl ⟨_, q1387, Or.inl rfl⟩⟩
theorem ft_X4_63 : FT 4 29 (.array .int) true RX4 := ⟨RX4, TX4, 44, tyX4, rfl, tyX4_ok, nmX4, rfl, rfl, fun _ => rfl⟩
theorem fl_X4_66 : FL RX4 66 4 30 := ⟨RX4, TX4, 44, rfl, by decide, by decide, rfl, in_X4, Or.inl ⟨_, q1388, Or.inl rfl⟩⟩
theorem ft_X4_66 : FT 4 30 (.array .int) true RX4 := ⟨RX4, TX4, 44, tyX4, rfl, tyX4_ok, nmX4, rfl, rfl, fun _ => rfl⟩
theorem fl_X4_69 : FL RX4 69 4 36 := ⟨RX4, TX4, 44, rfl, by decide, by decide, rfl, in_X4, Or.inl ⟨_, q1394, Or.inl rfl⟩⟩
theorem ft_X4_69 : FT 4 36 (.array .int) true RX4 := ⟨RX4, TX4, 44, tyX4, rfl, tyX4_ok, nmX4, rfl, rfl, fun _ => rfl⟩
theorem fl_X4_72 : FL RX4 72 4 37 := ⟨RX4, TX4, 44, rfl, by decide, by decide, rfl, in_X4, Or.inl ⟨_, q1395, Or.inl rfl⟩⟩
theorem ft_X4_72 : FT 4 37 (.array .boolean) true RX4 := ⟨RX4, TX4, 44, tyX4, rfl, tyX4_ok, nmX4, rfl, rfl, fun _ => rfl⟩
theorem fl_X4_75 : FL RX4 75 4 38 := ⟨RX4, TX4, 44, rfl, by decide, by decide, rfl, in_X4, Or.inl ⟨_, q1396, Or.inl rfl⟩⟩
theorem ft_X4_75 : FT 4 38 (.array .int) true RX4 := ⟨RX4, TX4, 44, tyX4, rfl, tyX4_ok, nmX4, rfl, rfl, fun _ => rfl⟩
theorem fl_X4_78 : FL RX4 78 4 40 := ⟨RX4, TX4, 44, rfl, by decide, by decide, rfl, in_X4, Or.inl ⟨_, q1398, Or.inl rfl⟩⟩
theorem ft_X4_78 : FT 4 40 (.array .int) true RX4 := ⟨RX4, TX4, 44, tyX4, rfl, tyX4_ok, nmX4, rfl, rfl, fun _ => rfl⟩
theorem fl_X4_81 : FL RX4 81 4 41 := ⟨RX4, TX4, 44, rfl, by decide, by decide, rfl, in_X4, Or.inl ⟨_, q1399, Or.inl rfl⟩⟩
theorem ft_X4_81 : FT 4 41 (.array .int) true RX4 := ⟨RX4, TX4, 44, tyX4, rfl, tyX4_ok, nmX4, rfl, rfl, fun _ => rfl⟩
theorem fl_X4_84 : FL RX4 84 4 42 := ⟨RX4, TX4, 44, rfl, by decide, by decide, rfl, in_X4, Or.inl ⟨_, q1400, Or.inl rfl⟩⟩
theorem ft_X4_84 : FT 4 42 (.array .int) true RX4 := ⟨RX4, TX4, 44, tyX4, rfl, tyX4_ok, nmX4, rfl, rfl, fun _ => rfl⟩
theorem fl_X4_87 : FL RX4 87 4 43 := ⟨RX4, TX4, 44, rfl, by decide, by decide, rfl, in_X4, Or.inl ⟨_, q1401, Or.inl rfl⟩⟩
theorem ft_X4_87 : FT 4 43 (.array .boolean) true RX4 := ⟨RX4, TX4, 44, tyX4, rfl, tyX4_ok, nmX4, rfl, rfl, fun _ => rfl⟩
theorem fl_X4_90 : FL RX4 90 4 1 := ⟨RX4, TX4, 44, rfl, by decide, by decide, rfl, in_X4, Or.inl ⟨_, q1359, Or.inl rfl⟩⟩
theorem ft_X4_90 : FT 4 1 .int false RX4 := ⟨RX4, TX4, 44, tyX4, rfl, tyX4_ok, nmX4, rfl, rfl, fun h => by cases h⟩
theorem fl_X4_97 : FL RX4 97 4 9 := ⟨RX4, TX4, 44, rfl, by decide, by decide, rfl, in_X4, Or.inl ⟨_, q1367, Or.inl rfl⟩⟩
theorem ft_X4_97 : FT 4 9 .int false RX4 := ⟨RX4, TX4, 44, tyX4, rfl, tyX4_ok, nmX4, rfl, rfl, fun h => by cases h⟩
theorem fl_X4_100 : FL RX4 100 4 8 := ⟨RX4, TX4, 44, rfl, by decide, by decide, rfl, in_X4, Or.inl ⟨_, q1366, Or.inl rfl⟩⟩
theorem ft_X4_100 : FT 4 8 .int false RX4 := ⟨RX4, TX4, 44, tyX4, rfl, tyX4_ok, nmX4, rfl, rfl, fun h => by cases h⟩
theorem fl_X4_125 : FL RX4 125 4 10 := ⟨RX4, TX4, 44, rfl, by decide, by decide, rfl, in_X4, Or.inl ⟨_, q1368, Or.inl rfl⟩⟩
theorem ft_X4_125 : FT 4 10 .int false RX4 := ⟨RX4, TX4, 44, tyX4, rfl, tyX4_ok, nmX4, rfl, rfl, fun h => by cases h⟩
theorem fl_X4_156 : FL RX4 156 4 11 := ⟨RX4, TX4, 44, rfl, by decide, by decide, rfl, in_X4, Or.inl ⟨_, q1369, Or.inl rfl⟩⟩
theorem ft_X4_156 : FT 4 11 .int false RX4 := ⟨RX4, TX4, 44, tyX4, rfl, tyX4_ok, nmX4, rfl, rfl, fun h => by cases h⟩
theorem fl_X4_159 : FL RX4 159 4 12 := ⟨RX4, TX4, 44, rfl, by decide, by decide, rfl, in_X4, Or.inl ⟨_, q1370, Or.inl rfl⟩⟩
theorem ft_X4_159 : FT 4 12 .int false RX4 := ⟨RX4, TX4, 44, tyX4, rfl, tyX4_ok, nmX4, rfl, rfl, fun h => by cases h⟩
theorem fl_X4_162 : FL RX4 162 4 13 := ⟨RX4, TX4, 44, rfl, by decide, by decide, rfl, in_X4, Or.inl ⟨_, q1371, Or.inl rfl⟩⟩
theorem ft_X4_162 : FT 4 13 .int false RX4 := ⟨RX4, TX4, 44, tyX4, rfl, tyX4_ok, nmX4, rfl, rfl, fun h => by cases h⟩
theorem fl_X4_165 : FL RX4 165 4 16 := ⟨RX4, TX4, 44, rfl, by decide, by decide, rfl, in_X4, Or.inl ⟨_, q1374, Or.inl rfl⟩⟩
theorem ft_X4_165 : FT 4 16 .int false RX4 := ⟨RX4, TX4, 44, tyX4, rfl, tyX4_ok, nmX4, rfl, rfl, fun h => by cases h⟩
theorem fl_X4_258 : FL RX4 258 4 14 := ⟨RX4, TX4, 44, rfl, by decide, by decide, rfl, in_X4, Or.inl ⟨_, q1372, Or.inl rfl⟩⟩
theorem ft_X4_258 : FT 4 14 .int false RX4 := ⟨RX4, TX4, 44, tyX4, rfl, tyX4_ok, nmX4, rfl, rfl, fun h => by cases h⟩
theorem fl_X4_270 : FL RX4 270 4 2 := ⟨RX4, TX4, 44, rfl, by decide, by decide, rfl, in_X4, Or.inl ⟨_, q1360, Or.inl rfl⟩⟩
theorem ft_X4_270 : FT 4 2 .int false RX4 := ⟨RX4, TX4, 44, tyX4, rfl, tyX4_ok, nmX4, rfl, rfl, fun h => by cases h⟩
theorem fl_X4_283 : FL RX4 283 4 27 := ⟨RX4, TX4, 44, rfl, by decide, by decide, rfl, in_X4, Or.inl ⟨_, q1385, Or.inl rfl⟩⟩
theorem ft_X4_283 : FT 4 27 .int false RX4 := ⟨RX4, TX4, 44, tyX4, rfl, tyX4_ok, nmX4, rfl, rfl, fun h => by cases h⟩
theorem fl_X4_286 : FL RX4 286 4 18 := ⟨RX4, TX4, 44, rfl, by decide, by decide, rfl, in_X4, Or.inl ⟨_, q1376, Or.inl rfl⟩⟩
theorem ft_X4_286 : FT 4 18 .int false RX4 := ⟨RX4, TX4, 44, tyX4, rfl, tyX4_ok, nmX4, rfl, rfl, fun h => by cases h⟩
theorem fl_X4_412 : FL RX4 412 4 31 := ⟨RX4, TX4, 44, rfl, by decide, by decide, rfl, in_X4, Or.inl ⟨_, q1389, Or.inl rfl⟩⟩
theorem ft_X4_412 : FT 4 31 .int false RX4 := ⟨RX4, TX4, 44, tyX4, rfl, tyX4_ok, nmX4, rfl, rfl, fun h => by cases h⟩
theorem fl_X4_415 : FL RX4 415 4 32 := ⟨RX4, TX4, 44, rfl, by decide, by decide, rfl, in_X4, Or.inl ⟨_, q1390, Or.inl rfl⟩⟩
theorem ft_X4_415 : FT 4 32 .int false RX4 := ⟨RX4, TX4, 44, tyX4, rfl, tyX4_ok, nmX4, rfl, rfl, fun h => by cases h⟩
theorem fl_X4_446 : FL RX4 446 4 33 := ⟨RX4, TX4, 44, rfl, by decide, by decide, rfl, in_X4, Or.inl ⟨_, q1391, Or.inl rfl⟩⟩
theorem ft_X4_446 : FT 4 33 .int false RX4 := ⟨RX4, TX4, 44, tyX4, rfl, tyX4_ok, nmX4, rfl, rfl, fun h => by cases h⟩
theorem fl_X4_449 : FL RX4 449 4 34 := ⟨RX4, TX4, 44, rfl, by decide, by decide, rfl, in_X4, Or.inl ⟨_, q1392, Or.inl rfl⟩⟩
theorem ft_X4_449 : FT 4 34 .int false RX4 := ⟨RX4, TX4, 44, tyX4, rfl, tyX4_ok, nmX4, rfl, rfl, fun h => by cases h⟩
theorem fl_X4_452 : FL RX4 452 4 35 := ⟨RX4, TX4, 44, rfl, by decide, by decide, rfl, in_X4, Or.inl ⟨_, q1393, Or.inl rfl⟩⟩
theorem ft_X4_452 : FT 4 35 .int false RX4 := ⟨RX4, TX4, 44, tyX4, rfl, tyX4_ok, nmX4, rfl, rfl, fun h => by cases h⟩
theorem fl_X4_478 : FL RX4 478 4 22 := ⟨RX4, TX4, 44, rfl, by decide, by decide, rfl, in_X4, Or.inl ⟨_, q1380, Or.inl rfl⟩⟩
theorem ft_X4_478 : FT 4 22 .int false RX4 := ⟨RX4, TX4, 44, tyX4, rfl, tyX4_ok, nmX4, rfl, rfl, fun h => by cases h⟩
theorem fl_X4_481 : FL RX4 481 4 39 := ⟨RX4, TX4, 44, rfl, by decide, by decide, rfl, in_X4, Or.inl ⟨_, q1397, Or.inl rfl⟩⟩
theorem ft_X4_481 : FT 4 39 .long false RX4 := ⟨RX4, TX4, 44, tyX4, rfl, tyX4_ok, nmX4, rfl, rfl, fun h => by cases h⟩
theorem fl_J2_9 : FL RJ2 9 19 1 := ⟨RJ2, TJ2, 3, rfl, by decide, by decide, rfl, in_J2, Or.inl ⟨_, q215, Or.inl rfl⟩⟩
theorem ft_J2_9 : FT 19 1 (.array (.object "java/lang/Object")) false RJ2 := ⟨RJ2, TJ2, 3, tyJ2, rfl, tyJ2_ok, nmJ2, rfl, rfl, fun h => by cases h⟩
theorem fl_J2_48 : FL RJ2 48 19 2 := ⟨RJ2, TJ2, 3, rfl, by decide, by decide, rfl, in_J2, Or.inl ⟨_, q216, Or.inl rfl⟩⟩
theorem ft_J2_48 : FT 19 2 .int false RJ2 := ⟨RJ2, TJ2, 3, tyJ2, rfl, tyJ2_ok, nmJ2, rfl, rfl, fun h => by cases h⟩
theorem fl_J2_63 : FL RJ2 63 19 0 := ⟨RJ2, TJ2, 3, rfl, by decide, by decide, rfl, in_J2, Or.inl ⟨_, q218, Or.inr q219⟩⟩
theorem ft_J2_63 : FT 19 0 .int false RJ2 := ⟨RJ2, TJ2, 3, tyJ2, rfl, tyJ2_ok, nmJ2, rfl, rfl, fun h => by cases h⟩
theorem fl_X0_123 : FL RX0 123 1 3 := ⟨RX1, TX1, 6, rfl, by decide, by decide, rfl, in_X1, Or.inr ⟨_, q237⟩⟩
theorem ft_X0_123 : FT 1 3 .int false RX0 := ⟨RX1, TX1, 6, tyX1, rfl, tyX1_ok, nmX1, rfl, rfl, fun h => by cases h⟩
theorem fl_X0_133 : FL RX0 133 1 1 := ⟨RX1, TX1, 6, rfl, by decide, by decide, rfl, in_X1, Or.inr ⟨_, q232⟩⟩
theorem fl_X0_143 : FL RX0 143 3 6 := ⟨RX3, TX3, 7, rfl, by decide, by decide, rfl, in_X3, Or.inr ⟨_, q334⟩⟩
theorem ft_X0_143 : FT 3 6 .int false RX0 := ⟨RX3, TX3, 7, tyX3, rfl, tyX3_ok, nmX3, rfl, rfl, fun h => by cases h⟩
theorem fl_X0_192 : FL RX0 192 2 1 := ⟨RX2, TX2, 6, rfl, by decide, by decide, rfl, in_X2, Or.inr ⟨_, q266⟩⟩
theorem fl_X0_195 : FL RX0 195 2 5 := ⟨RX2, TX2, 6, rfl, by decide, by decide, rfl, in_X2, Or.inr ⟨_, q274⟩⟩
theorem ft_X0_195 : FT 2 5 .int false RX0 := ⟨RX2, TX2, 6, tyX2, rfl, tyX2_ok, nmX2, rfl, rfl, fun h => by cases h⟩
theorem fl_X0_202 : FL RX0 202 2 0 := ⟨RX2, TX2, 6, rfl, by decide, by decide, rfl, in_X2, Or.inr ⟨_, q264⟩⟩
theorem fl_X0_220 : FL RX0 220 1 0 := ⟨RX1, TX1, 6, rfl, by decide, by decide, rfl, in_X1, Or.inr ⟨_, q230⟩⟩
theorem fl_X0_229 : FL RX0 229 7 2 := ⟨RX7, TX7, 3, rfl, by decide, by decide, rfl, in_X7, Or.inr ⟨_, q758⟩⟩
theorem fl_X0_236 : FL RX0 236 2 2 := ⟨RX2, TX2, 6, rfl, by decide, by decide, rfl, in_X2, Or.inr ⟨_, q268⟩⟩
theorem fl_X0_239 : FL RX0 239 2 3 := ⟨RX2, TX2, 6, rfl, by decide, by decide, rfl, in_X2, Or.inr ⟨_, q270⟩⟩
theorem fl_X0_242 : FL RX0 242 2 4 := ⟨RX2, TX2, 6, rfl, by decide, by decide, rfl, in_X2, Or.inr ⟨_, q272⟩⟩
theorem fl_X0_248 : FL RX0 248 1 2 := ⟨RX1, TX1, 6, rfl, by decide, by decide, rfl, in_X1, Or.inr ⟨_, q236⟩⟩
theorem fl_X0_262 : FL RX0 262 6 2 := ⟨RX6, TX6, 3, rfl, by decide, by decide, rfl, in_X6, Or.inr ⟨_, q659⟩⟩
theorem fl_X1_52 : FL RX1 52 6 0 := ⟨RX6, TX6, 3, rfl, by decide, by decide, rfl, in_X6, Or.inr ⟨_, q654⟩⟩
theorem fl_X1_55 : FL RX1 55 6 1 := ⟨RX6, TX6, 3, rfl, by decide, by decide, rfl, in_X6, Or.inr ⟨_, q656⟩⟩
theorem fl_X1_58 : FL RX1 58 6 2 := ⟨RX6, TX6, 3, rfl, by decide, by decide, rfl, in_X6, Or.inr ⟨_, q658⟩⟩
theorem fl_X18_32 : FL RX18 32 0 0 := ⟨RX0, TX0, 32, rfl, by decide, by decide, rfl, in_X0, Or.inr ⟨_, q358⟩⟩
theorem ft_X18_32 : FT 0 0 (.object "OutwardDoors$Castle") false RX18 := ⟨RX0, TX0, 32, tyX0, rfl, tyX0_ok, nmX0, rfl, rfl, fun h => by cases h⟩
theorem fl_X18_39 : FL RX18 39 0 1 := ⟨RX0, TX0, 32, rfl, by decide, by decide, rfl, in_X0, Or.inr ⟨_, q360⟩⟩
theorem fl_X18_46 : FL RX18 46 0 8 := ⟨RX0, TX0, 32, rfl, by decide, by decide, rfl, in_X0, Or.inr ⟨_, q372⟩⟩
theorem fl_X18_49 : FL RX18 49 0 9 := ⟨RX0, TX0, 32, rfl, by decide, by decide, rfl, in_X0, Or.inr ⟨_, q374⟩⟩
theorem fl_X18_52 : FL RX18 52 0 10 := ⟨RX0, TX0, 32, rfl, by decide, by decide, rfl, in_X0, Or.inr ⟨_, q376⟩⟩
theorem fl_X18_55 : FL RX18 55 0 11 := ⟨RX0, TX0, 32, rfl, by decide, by decide, rfl, in_X0, Or.inr ⟨_, q378⟩⟩
theorem ft_X18_55 : FT 0 11 .int false RX18 := ⟨RX0, TX0, 32, tyX0, rfl, tyX0_ok, nmX0, rfl, rfl, fun h => by cases h⟩
theorem fl_X18_62 : FL RX18 62 0 4 := ⟨RX0, TX0, 32, rfl, by decide, by decide, rfl, in_X0, Or.inr ⟨_, q365⟩⟩
theorem ft_X18_62 : FT 0 4 .int false RX18 := ⟨RX0, TX0, 32, tyX0, rfl, tyX0_ok, nmX0, rfl, rfl, fun h => by cases h⟩
theorem fl_X18_68 : FL RX18 68 0 12 := ⟨RX0, TX0, 32, rfl, by decide, by decide, rfl, in_X0, Or.inr ⟨_, q380⟩⟩
theorem ft_X18_68 : FT 0 12 .int false RX18 := ⟨RX0, TX0, 32, tyX0, rfl, tyX0_ok, nmX0, rfl, rfl, fun h => by cases h⟩
theorem fl_X18_74 : FL RX18 74 0 20 := ⟨RX0, TX0, 32, rfl, by decide, by decide, rfl, in_X0, Or.inr ⟨_, q389⟩⟩
theorem ft_X18_74 : FT 0 20 .int false RX18 := ⟨RX0, TX0, 32, tyX0, rfl, tyX0_ok, nmX0, rfl, rfl, fun h => by cases h⟩
theorem fl_X5_26 : FL RX5 26 0 7 := ⟨RX0, TX0, 32, rfl, by decide, by decide, rfl, in_X0, Or.inr ⟨_, q370⟩⟩
theorem ft_X5_26 : FT 0 7 .int false RX5 := ⟨RX0, TX0, 32, tyX0, rfl, tyX0_ok, nmX0, rfl, rfl, fun h => by cases h⟩
theorem fl_X5_29 : FL RX5 29 0 6 := ⟨RX0, TX0, 32, rfl, by decide, by decide, rfl, in_X0, Or.inr ⟨_, q368⟩⟩
theorem fl_X5_150 : FL RX5 150 1 3 := ⟨RX1, TX1, 6, rfl, by decide, by decide, rfl, in_X1, Or.inr ⟨_, q238⟩⟩
theorem ft_X5_150 : FT 1 3 .int false RX5 := ⟨RX1, TX1, 6, tyX1, rfl, tyX1_ok, nmX1, rfl, rfl, fun h => by cases h⟩
theorem fl_X5_163 : FL RX5 163 1 1 := ⟨RX1, TX1, 6, rfl, by decide, by decide, rfl, in_X1, Or.inr ⟨_, q233⟩⟩
theorem fl_X5_178 : FL RX5 178 1 5 := ⟨RX1, TX1, 6, rfl, by decide, by decide, rfl, in_X1, Or.inr ⟨_, q242⟩⟩
theorem ft_X5_178 : FT 1 5 .int false RX5 := ⟨RX1, TX1, 6, tyX1, rfl, tyX1_ok, nmX1, rfl, rfl, fun h => by cases h⟩
theorem fl_X5_181 : FL RX5 181 1 4 := ⟨RX1, TX1, 6, rfl, by decide, by decide, rfl, in_X1, Or.inr ⟨_, q240⟩⟩
theorem ft_X5_181 : FT 1 4 .int false RX5 := ⟨RX1, TX1, 6, tyX1, rfl, tyX1_ok, nmX1, rfl, rfl, fun h => by cases h⟩
theorem fl_X5_184 : FL RX5 184 1 0 := ⟨RX1, TX1, 6, rfl, by decide, by decide, rfl, in_X1, Or.inr ⟨_, q229⟩⟩
theorem fl_X5_203 : FL RX5 203 1 2 := ⟨RX1, TX1, 6, rfl, by decide, by decide, rfl, in_X1, Or.inr ⟨_, q235⟩⟩
theorem fl_X5_227 : FL RX5 227 8 0 := ⟨RX8, TX8, 1, rfl, by decide, by decide, rfl, in_X8, Or.inr ⟨_, q796⟩⟩
theorem fl_X5_250 : FL RX5 250 0 3 := ⟨RX0, TX0, 32, rfl, by decide, by decide, rfl, in_X0, Or.inr ⟨_, q364⟩⟩
theorem fl_X8_32 : FL RX8 32 13 0 := ⟨RX13, TX13, 2, rfl, by decide, by decide, rfl, in_X13, Or.inr ⟨_, q940⟩⟩
theorem fl_X2_37 : FL RX2 37 1 0 := ⟨RX1, TX1, 6, rfl, by decide, by decide, rfl, in_X1, Or.inr ⟨_, q228⟩⟩
theorem fl_X2_49 : FL RX2 49 7 0 := ⟨RX7, TX7, 3, rfl, by decide, by decide, rfl, in_X7, Or.inr ⟨_, q754⟩⟩
theorem fl_X2_51 : FL RX2 51 7 1 := ⟨RX7, TX7, 3, rfl, by decide, by decide, rfl, in_X7, Or.inr ⟨_, q756⟩⟩
theorem cl_X0_83 : CLS RX0 83 yX0_newStates cX0_newStates 3 (some (.array (.object "OutwardDoors$State"))) 1 := ⟨lw_S q351 q352 q150 q353, by decide +kernel⟩
theorem cl_X0_125 : CLV RX0 125 RX1 yX1_many cX1_many 1 (some .int) 0 := ⟨lw_V q777 q740 q741 q151 q742, by decide +kernel⟩
theorem cl_X0_129 : CLS RX0 129 yX0_in cX0_in 6 (some .boolean) 3 := ⟨lw_S q952 q548 q150 q549, by decide +kernel⟩
theorem cl_X0_136 : CLV RX0 136 RJ2 yJ2_size cJ2_size 1 (some .int) 0 := ⟨lw_V q782 q525 q526 q154 q527, by decide +kernel⟩
theorem cl_X0_139 : CLV RX0 139 RX0 yX0_isCastle cX0_isCastle 1 (some .boolean) 0 := ⟨lw_V q1043 q1045 qs36 q150 q1046, by decide +kernel⟩
theorem cl_X0_149 : CLV RX0 149 RX0 yX0_put cX0_put 3 none 1 := ⟨lw_V q474 q476 qs1 q150 q477, by decide +kernel⟩
theorem cl_X0_157 : CLV RX0 157 RX5 yX5_castle cX5_castle 2 (some (.object "OutwardDoors$Castle")) 0 := ⟨lw_V q514 q515 q516 q160 q517, by decide +kernel⟩
theorem cl_X0_160 : CLV RX0 160 RX2 yX2_begin cX2_begin 4 none 1 := ⟨lw_V q770 q771 q772 q155 q773, by decide +kernel⟩
theorem cl_X0_170 : CLV RX0 170 RX5 yX5_rule cX5_rule 2 (some .int) 0 := ⟨lw_V q783 q784 q785 q160 q786, by decide +kernel⟩
theorem cl_X0_175 : CLV RX0 175 RX1 yX1_isOpen cX1_isOpen 4 (some .boolean) 2 := ⟨lw_V q971 q972 q973 q151 q974, by decide +kernel⟩
theorem cl_X0_179 : CLV RX0 179 RX1 yX1_inner cX1_inner 3 (some .int) 1 := ⟨lw_V q980 q981 q982 q151 q983, by decide +kernel⟩
theorem cl_X0_183 : CLV RX0 183 RX1 yX1_outer cX1_outer 3 (some .int) 1 := ⟨lw_V q985 q986 q987 q151 q988, by decide +kernel⟩
theorem cl_X0_186 : CLS RX0 186 yJ12_min cJ12_min 2 (some .int) 2 := ⟨lw_S q990 q726 q169 q727, by decide +kernel⟩
theorem cl_X0_198 : CLV RX0 198 RX0 yX0_laysLeft cX0_laysLeft 8 none 2 := ⟨lw_V q967 q969 qs30 q150 q970, by decide +kernel⟩
theorem cl_X0_205 : CLV RX0 205 RX0 yX0_leftFrom cX0_leftFrom 4 (some .int) 3 := ⟨lw_V q963 q965 qs29 q150 q966, by decide +kernel⟩
theorem cl_X0_209 : CLV RX0 209 RX1 yX1_between cX1_between 5 (some .int) 3 := ⟨lw_V q995 q996 q997 q151 q998, by decide +kernel⟩
theorem cl_X0_213 : CLS RX0 213 yX0_has cX0_has 2 (some .boolean) 2 := ⟨lw_S q1016 q1017 q150 q1018, by decide +kernel⟩
theorem cl_X0_216 : CLV RX0 216 RX0 yX0_isPerson cX0_isPerson 2 (some .boolean) 1 := ⟨lw_V q957 q959 qs28 q150 q960, by decide +kernel⟩
theorem cl_X0_223 : CLV RX0 223 RJ2 yJ2_get cJ2_get 2 (some (.object "java/lang/Object")) 1 := ⟨lw_V q961 q628 q629 q154 q630, by decide +kernel⟩
theorem cl_X0_232 : CLV RX0 232 RX0 yX0_stepOf cX0_stepOf 5 (some .int) 2 := ⟨lw_V q991 q993 qs31 q150 q994, by decide +kernel⟩
theorem cl_X0_245 : CLV RX0 245 RX0 yX0_isRoom cX0_isRoom 2 (some .boolean) 1 := ⟨lw_V q1004 q1006 qs32 q150 q1007, by decide +kernel⟩
theorem cl_X0_251 : CLV RX0 251 RX0 yX0_whoIn cX0_whoIn 4 (some .int) 1 := ⟨lw_V q1008 q1010 qs33 q150 q1011, by decide +kernel⟩
theorem cl_X0_254 : CLV RX0 254 RX0 yX0_outsideOf cX0_outsideOf 6 (some .int) 1 := ⟨lw_V q1012 q1014 qs34 q150 q1015, by decide +kernel⟩
theorem cl_X0_257 : CLV RX0 257 RX0 yX0_isDoor cX0_isDoor 2 (some .boolean) 1 := ⟨lw_V q1023 q1025 qs35 q150 q1026, by decide +kernel⟩
theorem cl_X0_266 : CLS RX0 266 yX0_bit cX0_bit 1 (some .int) 1 := ⟨lw_S q1028 q1029 q150 q1030, by decide +kernel⟩
theorem cl_X0_270 : CLV RX0 270 RX1 yX1_isNight cX1_isNight 2 (some .boolean) 1 := ⟨lw_V q1067 q976 q977 q151 q978, by decide +kernel⟩
theorem cl_X0_273 : CLV RX0 273 RX0 yX0_asks cX0_asks 6 none 2 := ⟨lw_V q1063 q1065 qs41 q150 q1066, by decide +kernel⟩
theorem cl_X0_279 : CLV RX0 279 RX8 yX8_goes cX8_goes 3 (some .int) 1 := ⟨lw_V q1069 q1070 q1071 q173 q1072, by decide +kernel⟩
theorem cl_X0_283 : CLV RX0 283 RX1 yX1_firstOut cX1_firstOut 4 (some .int) 2 := ⟨lw_V q1111 q1112 q1113 q151 q1114, by decide +kernel⟩
theorem cl_X0_286 : CLV RX0 286 RX0 yX0_willOf cX0_willOf 4 (some .int) 2 := ⟨lw_V q1059 q1061 qs40 q150 q1062, by decide +kernel⟩
theorem cl_X0_289 : CLV RX0 289 RX2 yX2_goesOut cX2_goesOut 3 none 2 := ⟨lw_V q1123 q1124 q1125 q155 q1126, by decide +kernel⟩
theorem cl_X0_292 : CLV RX0 292 RX2 yX2_comesIn cX2_comesIn 4 none 3 := ⟨lw_V q1127 q1128 q1129 q155 q1130, by decide +kernel⟩
theorem cl_X0_296 : CLV RX0 296 RX0 yX0_wills cX0_wills 3 none 1 := ⟨lw_V q1055 q1057 qs39 q150 q1058, by decide +kernel⟩
theorem cl_X0_300 : CLV RX0 300 RX0 yX0_goesOut cX0_goesOut 3 (some .boolean) 2 := ⟨lw_V q1115 q1117 qs42 q150 q1118, by decide +kernel⟩
theorem cl_X0_303 : CLV RX0 303 RX0 yX0_passes cX0_passes 7 (some .int) 3 := ⟨lw_V q1119 q1121 qs43 q150 q1122, by decide +kernel⟩
theorem cl_X0_309 : CLV RX0 309 RX2 yX2_copyFrom cX2_copyFrom 3 none 1 := ⟨lw_V q1035 q1036 q1037 q155 q1038, by decide +kernel⟩
theorem cl_X0_312 : CLV RX0 312 RX0 yX0_keeps cX0_keeps 1 none 0 := ⟨lw_V q1047 q1049 qs37 q150 q1050, by decide +kernel⟩
theorem cl_X0_315 : CLV RX0 315 RX0 yX0_goesOn cX0_goesOn 5 (some .int) 1 := ⟨lw_V q1051 q1053 qs38 q150 q1054, by decide +kernel⟩
theorem cl_X0_319 : CLV RX0 319 RX0 yX0_canPass cX0_canPass 4 (some .boolean) 3 := ⟨lw_V q1139 q1141 qs44 q150 q1142, by decide +kernel⟩
theorem cl_X0_325 : CLV RX0 325 RX0 yX0_goesTill cX0_goesTill 3 none 1 := ⟨lw_V q1148 q1150 qs45 q150 q1151, by decide +kernel⟩
theorem cl_X0_331 : CLS RX0 331 yX0_placeOf cX0_placeOf 2 (some .int) 2 := ⟨lw_S q1180 q1181 q150 q1182, by decide +kernel⟩
theorem cl_X0_334 : CLS RX0 334 yX0_moved cX0_moved 3 (some .int) 3 := ⟨lw_S q1187 q1188 q150 q1189, by decide +kernel⟩
theorem cl_X0_337 : CLS RX0 337 yX0_codeOf cX0_codeOf 3 (some .int) 3 := ⟨lw_S q1190 q1191 q150 q1192, by decide +kernel⟩
theorem cl_X0_340 : CLV RX0 340 RX0 yX0_reaches cX0_reaches 4 none 3 := ⟨lw_V q1193 q1195 qs52 q150 q1196, by decide +kernel⟩
theorem cl_X0_343 : CLV RX0 343 RX0 yX0_areThere cX0_areThere 4 (some .boolean) 2 := ⟨lw_V q1176 q1178 qs50 q150 q1179, by decide +kernel⟩
theorem cl_X0_346 : CLV RX0 346 RX0 yX0_spreads cX0_spreads 7 none 2 := ⟨lw_V q1183 q1185 qs51 q150 q1186, by decide +kernel⟩
theorem cl_X0_349 : CLV RX0 349 RX0 yX0_placesNow cX0_placesNow 3 (some .int) 0 := ⟨lw_V q1168 q1170 qs48 q150 q1171, by decide +kernel⟩
theorem cl_X0_352 : CLV RX0 352 RX0 yX0_finds cX0_finds 5 (some .int) 3 := ⟨lw_V q1172 q1174 qs49 q150 q1175, by decide +kernel⟩
theorem cl_X0_355 : CLV RX0 355 RX0 yX0_isPeople cX0_isPeople 2 (some .boolean) 1 := ⟨lw_V q1160 q1162 qs46 q150 q1163, by decide +kernel⟩
theorem cl_X0_358 : CLV RX0 358 RX0 yX0_fewestOf cX0_fewestOf 3 (some .int) 1 := ⟨lw_V q1164 q1166 qs47 q150 q1167, by decide +kernel⟩
theorem cl_X0_364 : CLV RX0 364 RX0 yX0_cheapest cX0_cheapest 3 (some .int) 0 := ⟨lw_V q1215 q1217 qs53 q150 q1218, by decide +kernel⟩
theorem cl_X0_367 : CLV RX0 367 RX0 yX0_pays cX0_pays 9 none 2 := ⟨lw_V q1219 q1221 qs54 q150 q1222, by decide +kernel⟩
theorem cl_X0_370 : CLV RX0 370 RX0 yX0_wouldSwap cX0_wouldSwap 4 (some .boolean) 2 := ⟨lw_V q1231 q1233 qs55 q150 q1234, by decide +kernel⟩
theorem cl_X0_375 : CLV RX0 375 RX0 yX0_areNotesSo cX0_areNotesSo 3 (some .boolean) 0 := ⟨lw_V q1248 q1250 qs57 q150 q1251, by decide +kernel⟩
theorem cl_X0_378 : CLV RX0 378 RX0 yX0_couldRule cX0_couldRule 4 (some .boolean) 1 := ⟨lw_V q1244 q1246 qs56 q150 q1247, by decide +kernel⟩
theorem cl_X0_381 : CLS RX0 381 yJ12_max cJ12_max 2 (some .int) 2 := ⟨lw_S q1264 q689 q169 q690, by decide +kernel⟩
theorem cl_X0_384 : CLV RX0 384 RX0 yX0_laysRooms cX0_laysRooms 6 (some .int) 1 := ⟨lw_V q1256 q1258 qs58 q150 q1259, by decide +kernel⟩
theorem cl_X0_387 : CLV RX0 387 RX0 yX0_mostAlike cX0_mostAlike 7 (some .int) 2 := ⟨lw_V q1260 q1262 qs59 q150 q1263, by decide +kernel⟩
theorem cl_X0_400 : CLV RX0 400 RX0 yX0_draws cX0_draws 2 (some .int) 1 := ⟨lw_V q1278 q1280 qs61 q150 q1281, by decide +kernel⟩
theorem cl_X0_405 : CLV RX0 405 RX0 yX0_drawsAim cX0_drawsAim 2 none 0 := ⟨lw_V q1274 q1276 qs60 q150 q1277, by decide +kernel⟩
theorem cl_X0_408 : CLV RX0 408 RX2 yX2_cameAll cX2_cameAll 3 (some .int) 0 := ⟨lw_V q1286 q1287 q1288 q155 q1289, by decide +kernel⟩
theorem cl_X0_411 : CLV RX0 411 RX2 yX2_wentAll cX2_wentAll 3 (some .int) 0 := ⟨lw_V q1290 q1291 q1292 q155 q1293, by decide +kernel⟩
theorem cl_X0_419 : CLV RX0 419 RX18 yX18_keep cX18_keep 2 none 0 := ⟨lw_V q1338 q1339 q1340 q184 q1341, by decide +kernel⟩
theorem cl_X0_422 : CLV RX0 422 RX18 yX18_back cX18_back 2 none 0 := ⟨lw_V q1347 q1348 q1349 q184 q1350, by decide +kernel⟩
theorem cl_X1_34 : CLV RX1 34 RJ2 yJ2_size cJ2_size 1 (some .int) 0 := ⟨lw_V q626 q525 q526 q154 q527, by decide +kernel⟩
theorem cl_X1_42 : CLV RX1 42 RJ2 yJ2_get cJ2_get 2 (some (.object "java/lang/Object")) 1 := ⟨lw_V q627 q628 q629 q154 q630, by decide +kernel⟩
theorem cl_X1_48 : CLV RX1 48 RX6 yX6_joins cX6_joins 3 (some .boolean) 2 := ⟨lw_V q640 q641 q642 q167 q643, by decide +kernel⟩
theorem cl_X1_62 : CLV RX1 62 RX1 yX1_isNight cX1_isNight 2 (some .boolean) 1 := ⟨lw_V q975 q976 q977 q151 q978, by decide +kernel⟩
theorem cl_X1_66 : CLS RX1 66 yJ12_min cJ12_min 2 (some .int) 2 := ⟨lw_S q984 q726 q169 q727, by decide +kernel⟩
theorem cl_X1_72 : CLV RX1 72 RX1 yX1_inner cX1_inner 3 (some .int) 1 := ⟨lw_V q989 q981 q982 q151 q983, by decide +kernel⟩
theorem cl_X1_76 : CLV RX1 76 RX1 yX1_isOpen cX1_isOpen 4 (some .boolean) 2 := ⟨lw_V q999 q972 q973 q151 q974, by decide +kernel⟩
theorem cl_X18_42 : CLV RX18 42 RX2 yX2_copyFrom cX2_copyFrom 3 none 1 := ⟨lw_V q1342 q1036 q1037 q155 q1038, by decide +kernel⟩
theorem cl_X5_33 : CLV RX5 33 RX5 yX5_sign cX5_sign 1 (some .int) 0 := ⟨lw_V q541 q543 qs6 q160 q544, by decide +kernel⟩
theorem cl_X5_45 : CLV RX5 45 RX5 yX5_next cX5_next 1 (some .int) 0 := ⟨lw_V q537 q539 qs5 q160 q540, by decide +kernel⟩
theorem cl_X5_52 : CLV RX5 52 RJ5 yJ5_length cJ5_length 1 (some .int) 0 := ⟨lw_V q550 q551 q552 q161 q553, by decide +kernel⟩
theorem cl_X5_57 : CLV RX5 57 RJ5 yJ5_charAt cJ5_charAt 2 (some .char) 1 := ⟨lw_V q560 q561 q562 q161 q563, by decide +kernel⟩
theorem cl_X5_61 : CLV RX5 61 RX5 yX5_isWord cX5_isWord 5 (some .boolean) 1 := ⟨lw_V q533 q535 qs4 q160 q536, by decide +kernel⟩
theorem cl_X5_65 : CLV RX5 65 RX5 yX5_isDigit cX5_isDigit 1 (some .boolean) 0 := ⟨lw_V q606 q608 qs9 q160 q609, by decide +kernel⟩
theorem cl_X5_82 : CLV RX5 82 RX5 yX5_number cX5_number 5 (some .int) 2 := ⟨lw_V q602 q604 qs8 q160 q605, by decide +kernel⟩
theorem cl_X5_89 : CLV RX5 89 RX5 yX5_counts cX5_counts 2 none 1 := ⟨lw_V q831 q833 qs22 q160 q834, by decide +kernel⟩
theorem cl_X5_95 : CLV RX5 95 RX5 yX5_value cX5_value 3 (some (.object "OutwardDoors$Value")) 0 := ⟨lw_V q813 q815 qs21 q160 q816, by decide +kernel⟩
theorem cl_X5_104 : CLV RX5 104 RX5 yX5_term cX5_term 3 (some (.object "OutwardDoors$Value")) 0 := ⟨lw_V q809 q811 qs20 q160 q812, by decide +kernel⟩
theorem cl_X5_109 : CLV RX5 109 RX5 yX5_goesDeeper cX5_goesDeeper 2 none 1 := ⟨lw_V q881 q883 qs27 q160 q884, by decide +kernel⟩
theorem cl_X5_114 : CLV RX5 114 RX5 yX5_fact cX5_fact 5 (some (.object "OutwardDoors$Condition")) 0 := ⟨lw_V q876 q878 qs26 q160 q879, by decide +kernel⟩
theorem cl_X5_121 : CLV RX5 121 RX5 yX5_test cX5_test 2 (some (.object "OutwardDoors$Condition")) 0 := ⟨lw_V q868 q870 qs24 q160 q871, by decide +kernel⟩
theorem cl_X5_124 : CLV RX5 124 RX5 yX5_sum cX5_sum 3 (some (.object "OutwardDoors$Value")) 0 := ⟨lw_V q805 q807 qs19 q160 q808, by decide +kernel⟩
theorem cl_X5_134 : CLV RX5 134 RX5 yX5_takes cX5_takes 3 (some .boolean) 1 := ⟨lw_V q864 q866 qs23 q160 q867, by decide +kernel⟩
theorem cl_X5_142 : CLV RX5 142 RX5 yX5_part cX5_part 2 (some (.object "OutwardDoors$Condition")) 0 := ⟨lw_V q872 q874 qs25 q160 q875, by decide +kernel⟩
theorem cl_X5_155 : CLV RX5 155 RX5 yX5_one cX5_one 2 (some .int) 1 := ⟨lw_V q613 q615 qs10 q160 q616, by decide +kernel⟩
theorem cl_X5_159 : CLV RX5 159 RX1 yX1_isJoined cX1_isJoined 4 (some .boolean) 2 := ⟨lw_V q622 q623 q624 q151 q625, by decide +kernel⟩
theorem cl_X5_172 : CLV RX5 172 RJ2 yJ2_add cJ2_add 2 (some .boolean) 1 := ⟨lw_V q667 q668 q669 q154 q670, by decide +kernel⟩
theorem cl_X5_192 : CLV RX5 192 RJ2 yJ2_size cJ2_size 1 (some .int) 0 := ⟨lw_V q524 q525 q526 q154 q527, by decide +kernel⟩
theorem cl_X5_197 : CLV RX5 197 RX5 yX5_begins cX5_begins 3 (some .boolean) 2 := ⟨lw_V q529 q531 qs3 q160 q532, by decide +kernel⟩
theorem cl_X5_208 : CLV RX5 208 RX5 yX5_door cX5_door 6 none 2 := ⟨lw_V q618 q620 qs11 q160 q621, by decide +kernel⟩
theorem cl_X5_215 : CLV RX5 215 RX5 yX5_night cX5_night 3 none 1 := ⟨lw_V q734 q736 qs15 q160 q737, by decide +kernel⟩
theorem cl_X5_220 : CLV RX5 220 RX1 yX1_many cX1_many 1 (some .int) 0 := ⟨lw_V q739 q740 q741 q151 q742, by decide +kernel⟩
theorem cl_X5_223 : CLV RX5 223 RX5 yX5_person cX5_person 4 none 1 := ⟨lw_V q743 q745 qs16 q160 q746, by decide +kernel⟩
theorem cl_X5_240 : CLV RX5 240 RX5 yX5_clause cX5_clause 5 none 1 := ⟨lw_V q520 q522 qs2 q160 q523, by decide +kernel⟩
theorem cl_X5_243 : CLV RX5 243 RX5 yX5_goesOn cX5_goesOn 2 (some .boolean) 0 := ⟨lw_V q766 q768 qs17 q160 q769, by decide +kernel⟩
theorem cl_X5_247 : CLV RX5 247 RX5 yX5_clause_2 cX5_clause_2 3 none 1 := ⟨lw_V q800 q802 qs18 q160 q803, by decide +kernel⟩
theorem cl_X8_18 : CLV RX8 18 RJ2 yJ2_size cJ2_size 1 (some .int) 0 := ⟨lw_V q1073 q525 q526 q154 q527, by decide +kernel⟩
theorem cl_X8_22 : CLV RX8 22 RJ2 yJ2_get cJ2_get 2 (some (.object "java/lang/Object")) 1 := ⟨lw_V q1074 q628 q629 q154 q630, by decide +kernel⟩
theorem cl_X8_28 : CLV RX8 28 RX13 yX13_holds cX13_holds 2 (some .boolean) 1 := ⟨lw_V q1076 q1077 q1078 q178 q1079, by decide +kernel⟩
theorem cl_X8_42 : CLS RX8 42 yJ14_signum cJ14_signum 2 (some .int) 1 := ⟨lw_S q1108 q1109 q183 q1110, by decide +kernel⟩
theorem cl_X2_31 : CLV RX2 31 RX1 yX1_many cX1_many 1 (some .int) 0 := ⟨lw_V q774 q740 q741 q151 q742, by decide +kernel⟩
theorem cl_X2_41 : CLV RX2 41 RJ2 yJ2_get cJ2_get 2 (some (.object "java/lang/Object")) 1 := ⟨lw_V q775 q628 q629 q154 q630, by decide +kernel⟩
theorem cl_X4_93 : CLV RX4 93 RX4 yX4_four cX4_four 3 none 1 := ⟨lw_V q1495 q1497 qs62 q159 q1498, by decide +kernel⟩
theorem cl_X4_103 : CLV RX4 103 RX4 yX4_see cX4_see 1 (some .int) 0 := ⟨lw_V q1515 q1517 qs65 q159 q1518, by decide +kernel⟩
theorem cl_X4_107 : CLV RX4 107 RX4 yX4_isLetter cX4_isLetter 2 (some .boolean) 1 := ⟨lw_V q1528 q1530 qs68 q159 q1531, by decide +kernel⟩
theorem cl_X4_111 : CLV RX4 111 RX4 yX4_isWord cX4_isWord 6 (some .boolean) 1 := ⟨lw_V q1524 q1526 qs67 q159 q1527, by decide +kernel⟩
theorem cl_X4_115 : CLV RX4 115 RX4 yX4_passWord cX4_passWord 1 none 0 := ⟨lw_V q1550 q1552 qs72 q159 q1553, by decide +kernel⟩
theorem cl_X4_118 : CLV RX4 118 RX4 yX4_isDigit cX4_isDigit 2 (some .boolean) 1 := ⟨lw_V q1562 q1564 qs75 q159 q1565, by decide +kernel⟩
theorem cl_X4_121 : CLV RX4 121 RX4 yX4_fails cX4_fails 3 (some .boolean) 2 := ⟨lw_V q1538 q1540 qs69 q159 q1541, by decide +kernel⟩
theorem cl_X4_128 : CLS RX4 128 yX4_in cX4_in 6 (some .boolean) 3 := ⟨lw_S q1566 q1567 q159 q1568, by decide +kernel⟩
theorem cl_X4_168 : CLS RX4 168 yX4_strength cX4_strength 1 (some .int) 1 := ⟨lw_S q1653 q1654 q159 q1655, by decide +kernel⟩
theorem cl_X4_172 : CLV RX4 172 RX4 yX4_puts cX4_puts 3 none 2 := ⟨lw_V q1606 q1608 qs85 q159 q1609, by decide +kernel⟩
theorem cl_X4_177 : CLV RX4 177 RX4 yX4_numberHere cX4_numberHere 5 (some .boolean) 2 := ⟨lw_V q1558 q1560 qs74 q159 q1561, by decide +kernel⟩
theorem cl_X4_180 : CLV RX4 180 RX4 yX4_makes cX4_makes 2 (some .boolean) 1 := ⟨lw_V q1602 q1604 qs84 q159 q1605, by decide +kernel⟩
theorem cl_X4_183 : CLV RX4 183 RX4 yX4_wordHere cX4_wordHere 1 (some .int) 0 := ⟨lw_V q1610 q1612 qs86 q159 q1613, by decide +kernel⟩
theorem cl_X4_186 : CLV RX4 186 RX4 yX4_value cX4_value 3 (some .boolean) 0 := ⟨lw_V q1597 q1599 qs83 q159 q1600, by decide +kernel⟩
theorem cl_X4_190 : CLV RX4 190 RX4 yX4_term cX4_term 2 (some .boolean) 0 := ⟨lw_V q1593 q1595 qs82 q159 q1596, by decide +kernel⟩
theorem cl_X4_193 : CLV RX4 193 RX4 yX4_sum cX4_sum 2 (some .boolean) 0 := ⟨lw_V q1589 q1591 qs81 q159 q1592, by decide +kernel⟩
theorem cl_X4_198 : CLV RX4 198 RX4 yX4_opens cX4_opens 2 (some .boolean) 1 := ⟨lw_V q1637 q1639 qs90 q159 q1640, by decide +kernel⟩
theorem cl_X4_201 : CLV RX4 201 RX4 yX4_compare cX4_compare 5 (some .boolean) 0 := ⟨lw_V q1641 q1643 qs91 q159 q1644, by decide +kernel⟩
theorem cl_X4_204 : CLV RX4 204 RX4 yX4_settles cX4_settles 2 none 1 := ⟨lw_V q1649 q1651 qs93 q159 q1652, by decide +kernel⟩
theorem cl_X4_207 : CLV RX4 207 RX4 yX4_isInside cX4_isInside 2 (some .boolean) 0 := ⟨lw_V q1656 q1658 qs94 q159 q1659, by decide +kernel⟩
theorem cl_X4_210 : CLV RX4 210 RX4 yX4_fact cX4_fact 3 (some .boolean) 0 := ⟨lw_V q1632 q1634 qs89 q159 q1635, by decide +kernel⟩
theorem cl_X4_213 : CLV RX4 213 RX4 yX4_closes cX4_closes 1 none 0 := ⟨lw_V q1645 q1647 qs92 q159 q1648, by decide +kernel⟩
theorem cl_X4_222 : CLV RX4 222 RX4 yX4_takesWord cX4_takesWord 3 (some .boolean) 1 := ⟨lw_V q1624 q1626 qs87 q159 q1627, by decide +kernel⟩
theorem cl_X4_225 : CLV RX4 225 RX4 yX4_tested cX4_tested 3 (some .boolean) 0 := ⟨lw_V q1628 q1630 qs88 q159 q1631, by decide +kernel⟩
theorem cl_X4_228 : CLV RX4 228 RX4 yX4_cellHere cX4_cellHere 4 (some .boolean) 3 := ⟨lw_V q1554 q1556 qs73 q159 q1557, by decide +kernel⟩
theorem cl_X4_234 : CLV RX4 234 RX4 yX4_isCastleHere cX4_isCastleHere 2 (some .boolean) 1 := ⟨lw_V q1546 q1548 qs71 q159 q1549, by decide +kernel⟩
theorem cl_X4_237 : CLV RX4 237 RX4 yX4_isFarHere cX4_isFarHere 1 (some .boolean) 0 := ⟨lw_V q1569 q1571 qs76 q159 q1572, by decide +kernel⟩
theorem cl_X4_242 : CLV RX4 242 RX4 yX4_isDoorHere cX4_isDoorHere 9 (some .boolean) 2 := ⟨lw_V q1573 q1575 qs77 q159 q1576, by decide +kernel⟩
theorem cl_X4_247 : CLV RX4 247 RX4 yX4_isNightHere cX4_isNightHere 2 (some .boolean) 1 := ⟨lw_V q1577 q1579 qs78 q159 q1580, by decide +kernel⟩
theorem cl_X4_250 : CLV RX4 250 RX4 yX4_isPersonHere cX4_isPersonHere 3 (some .boolean) 1 := ⟨lw_V q1581 q1583 qs79 q159 q1584, by decide +kernel⟩
theorem cl_X4_253 : CLV RX4 253 RX4 yX4_isCastleWord cX4_isCastleWord 1 (some .boolean) 0 := ⟨lw_V q1519 q1521 qs66 q159 q1522, by decide +kernel⟩
theorem cl_X4_261 : CLV RX4 261 RX4 yX4_castleLineHere cX4_castleLineHere 2 (some .boolean) 1 := ⟨lw_V q1542 q1544 qs70 q159 q1545, by decide +kernel⟩
theorem cl_X4_264 : CLV RX4 264 RX4 yX4_isGoHere cX4_isGoHere 2 (some .boolean) 0 := ⟨lw_V q1585 q1587 qs80 q159 q1588, by decide +kernel⟩
theorem cl_X4_267 : CLV RX4 267 RX4 yX4_clauseHere cX4_clauseHere 3 (some .boolean) 0 := ⟨lw_V q1511 q1513 qs64 q159 q1514, by decide +kernel⟩
theorem cl_X4_273 : CLV RX4 273 RX4 yX4_readsAll cX4_readsAll 2 (some .boolean) 0 := ⟨lw_V q1507 q1509 qs63 q159 q1510, by decide +kernel⟩
theorem cl_X4_276 : CLV RX4 276 RX4 yX4_turnsDoors cX4_turnsDoors 5 none 0 := ⟨lw_V q1666 q1668 qs95 q159 q1669, by decide +kernel⟩
theorem cl_X4_279 : CLV RX4 279 RX4 yX4_personOf cX4_personOf 3 (some .int) 2 := ⟨lw_V q1670 q1672 qs96 q159 q1673, by decide +kernel⟩
theorem cl_X4_289 : CLV RX4 289 RX4 yX4_push cX4_push 3 none 1 := ⟨lw_V q1795 q1797 qs119 q159 q1798, by decide +kernel⟩
theorem cl_X4_293 : CLV RX4 293 RX4 yX4_pop cX4_pop 1 (some .long) 0 := ⟨lw_V q1799 q1801 qs120 q159 q1802, by decide +kernel⟩
theorem cl_X4_297 : CLS RX4 297 yX4_one cX4_one 5 (some .long) 3 := ⟨lw_S q1803 q1804 q159 q1805, by decide +kernel⟩
theorem cl_X4_301 : CLV RX4 301 RX4 yX4_nearOf cX4_nearOf 2 (some .int) 1 := ⟨lw_V q1707 q1709 qs103 q159 q1710, by decide +kernel⟩
theorem cl_X4_304 : CLV RX4 304 RX4 yX4_farOf cX4_farOf 2 (some .int) 1 := ⟨lw_V q1711 q1713 qs104 q159 q1714, by decide +kernel⟩
theorem cl_X4_307 : CLV RX4 307 RX4 yX4_isNight cX4_isNight 2 (some .boolean) 0 := ⟨lw_V q1715 q1717 qs105 q159 q1718, by decide +kernel⟩
theorem cl_X4_310 : CLV RX4 310 RX4 yX4_isOpen cX4_isOpen 2 (some .boolean) 1 := ⟨lw_V q1703 q1705 qs102 q159 q1706, by decide +kernel⟩
theorem cl_X4_313 : CLV RX4 313 RX4 yX4_fillsDoors cX4_fillsDoors 6 none 1 := ⟨lw_V q1699 q1701 qs101 q159 q1702, by decide +kernel⟩
theorem cl_X4_316 : CLV RX4 316 RX4 yX4_leftFrom cX4_leftFrom 3 (some .int) 2 := ⟨lw_V q1695 q1697 qs100 q159 q1698, by decide +kernel⟩
theorem cl_X4_319 : CLV RX4 319 RX4 yX4_leftOf cX4_leftOf 2 (some .int) 1 := ⟨lw_V q1691 q1693 qs99 q159 q1694, by decide +kernel⟩
theorem cl_X4_322 : CLS RX4 322 yX4_isOf cX4_isOf 2 (some .boolean) 2 := ⟨lw_S q1740 q1741 q159 q1742, by decide +kernel⟩
theorem cl_X4_325 : CLV RX4 325 RX4 yX4_isRule cX4_isRule 2 (some .boolean) 1 := ⟨lw_V q1678 q1680 qs97 q159 q1681, by decide +kernel⟩
theorem cl_X4_328 : CLV RX4 328 RX4 yX4_isPerson cX4_isPerson 2 (some .boolean) 1 := ⟨lw_V q1686 q1688 qs98 q159 q1689, by decide +kernel⟩
theorem cl_X4_333 : CLV RX4 333 RX4 yX4_stepOf cX4_stepOf 7 (some .int) 1 := ⟨lw_V q1719 q1721 qs106 q159 q1722, by decide +kernel⟩
theorem cl_X4_336 : CLV RX4 336 RX4 yX4_isRoom cX4_isRoom 2 (some .boolean) 1 := ⟨lw_V q1727 q1729 qs107 q159 q1730, by decide +kernel⟩
theorem cl_X4_341 : CLV RX4 341 RX4 yX4_peopleIn cX4_peopleIn 4 (some .int) 1 := ⟨lw_V q1732 q1734 qs108 q159 q1735, by decide +kernel⟩
theorem cl_X4_344 : CLV RX4 344 RX4 yX4_outsideOf cX4_outsideOf 5 (some .int) 1 := ⟨lw_V q1736 q1738 qs109 q159 q1739, by decide +kernel⟩
theorem cl_X4_347 : CLV RX4 347 RX4 yX4_isDoor cX4_isDoor 2 (some .boolean) 1 := ⟨lw_V q1747 q1749 qs110 q159 q1750, by decide +kernel⟩
theorem cl_X4_352 : CLS RX4 352 yX4_bits cX4_bits 3 (some .int) 1 := ⟨lw_S q1780 q1781 q159 q1782, by decide +kernel⟩
theorem cl_X4_355 : CLV RX4 355 RX4 yX4_askersOf cX4_askersOf 5 (some .int) 1 := ⟨lw_V q1783 q1785 qs116 q159 q1786, by decide +kernel⟩
theorem cl_X4_358 : CLV RX4 358 RX4 yX4_reckons cX4_reckons 11 (some .long) 3 := ⟨lw_V q1791 q1793 qs118 q159 q1794, by decide +kernel⟩
theorem cl_X4_362 : CLV RX4 362 RX4 yX4_words cX4_words 3 none 1 := ⟨lw_V q1776 q1778 qs115 q159 q1779, by decide +kernel⟩
theorem cl_X4_365 : CLV RX4 365 RX4 yX4_summedBy cX4_summedBy 4 (some .long) 1 := ⟨lw_V q1787 q1789 qs117 q159 q1790, by decide +kernel⟩
theorem cl_X4_369 : CLV RX4 369 RX4 yX4_firstOut cX4_firstOut 3 (some .int) 1 := ⟨lw_V q1806 q1808 qs121 q159 q1809, by decide +kernel⟩
theorem cl_X4_372 : CLV RX4 372 RX4 yX4_doorBetween cX4_doorBetween 4 (some .int) 2 := ⟨lw_V q1810 q1812 qs122 q159 q1813, by decide +kernel⟩
theorem cl_X4_375 : CLV RX4 375 RX4 yX4_wills cX4_wills 6 none 1 := ⟨lw_V q1772 q1774 qs114 q159 q1775, by decide +kernel⟩
theorem cl_X4_378 : CLV RX4 378 RX4 yX4_goesOut cX4_goesOut 4 none 2 := ⟨lw_V q1814 q1816 qs123 q159 q1817, by decide +kernel⟩
theorem cl_X4_381 : CLV RX4 381 RX4 yX4_willer cX4_willer 6 (some .int) 3 := ⟨lw_V q1818 q1820 qs124 q159 q1821, by decide +kernel⟩
theorem cl_X4_385 : CLV RX4 385 RX4 yX4_comesIn cX4_comesIn 5 none 3 := ⟨lw_V q1822 q1824 qs125 q159 q1825, by decide +kernel⟩
theorem cl_X4_389 : CLV RX4 389 RX4 yX4_isCastle cX4_isCastle 1 (some .boolean) 0 := ⟨lw_V q1760 q1762 qs111 q159 q1763, by decide +kernel⟩
theorem cl_X4_392 : CLV RX4 392 RX4 yX4_keepsAct cX4_keepsAct 2 none 0 := ⟨lw_V q1764 q1766 qs112 q159 q1767, by decide +kernel⟩
theorem cl_X4_395 : CLV RX4 395 RX4 yX4_passes cX4_passes 4 (some .int) 0 := ⟨lw_V q1768 q1770 qs113 q159 q1771, by decide +kernel⟩
theorem cl_X4_400 : CLV RX4 400 RX4 yX4_keeps cX4_keeps 2 none 0 := ⟨lw_V q1839 q1841 qs126 q159 q1842, by decide +kernel⟩
theorem cl_X4_403 : CLV RX4 403 RX4 yX4_laysBack cX4_laysBack 2 none 0 := ⟨lw_V q1843 q1845 qs127 q159 q1846, by decide +kernel⟩
theorem cl_X4_406 : CLV RX4 406 RX4 yX4_power cX4_power 4 (some .int) 1 := ⟨lw_V q1867 q1869 qs131 q159 q1870, by decide +kernel⟩
theorem cl_X4_409 : CLV RX4 409 RX4 yX4_roomIn cX4_roomIn 3 (some .int) 2 := ⟨lw_V q1875 q1877 qs133 q159 q1878, by decide +kernel⟩
theorem cl_X4_418 : CLV RX4 418 RX4 yX4_moved cX4_moved 4 (some .int) 3 := ⟨lw_V q1891 q1893 qs137 q159 q1894, by decide +kernel⟩
theorem cl_X4_422 : CLV RX4 422 RX4 yX4_reaches cX4_reaches 3 none 2 := ⟨lw_V q1879 q1881 qs134 q159 q1882, by decide +kernel⟩
theorem cl_X4_425 : CLV RX4 425 RX4 yX4_reachesBack cX4_reachesBack 8 none 2 := ⟨lw_V q1887 q1889 qs136 q159 q1890, by decide +kernel⟩
theorem cl_X4_428 : CLV RX4 428 RX4 yX4_clears cX4_clears 3 none 1 := ⟨lw_V q1863 q1865 qs130 q159 q1866, by decide +kernel⟩
theorem cl_X4_431 : CLV RX4 431 RX4 yX4_areAtGoals cX4_areAtGoals 4 (some .boolean) 2 := ⟨lw_V q1871 q1873 qs132 q159 q1874, by decide +kernel⟩
theorem cl_X4_434 : CLV RX4 434 RX4 yX4_goesBack cX4_goesBack 3 none 1 := ⟨lw_V q1883 q1885 qs135 q159 q1886, by decide +kernel⟩
theorem cl_X4_437 : CLV RX4 437 RX4 yX4_isSet cX4_isSet 2 (some .boolean) 1 := ⟨lw_V q1855 q1857 qs128 q159 q1858, by decide +kernel⟩
theorem cl_X4_440 : CLV RX4 440 RX4 yX4_fillsPassings cX4_fillsPassings 5 none 3 := ⟨lw_V q1859 q1861 qs129 q159 q1862, by decide +kernel⟩
theorem cl_X4_443 : CLV RX4 443 RX4 yX4_codeNow cX4_codeNow 3 (some .int) 0 := ⟨lw_V q1895 q1897 qs138 q159 q1898, by decide +kernel⟩
theorem cl_X4_455 : CLV RX4 455 RX4 yX4_nextCode cX4_nextCode 7 (some .int) 1 := ⟨lw_V q1903 q1905 qs139 q159 q1906, by decide +kernel⟩
theorem cl_X4_458 : CLV RX4 458 RX4 yX4_paysBack cX4_paysBack 10 (some .boolean) 2 := ⟨lw_V q1919 q1921 qs140 q159 q1922, by decide +kernel⟩
theorem cl_X4_461 : CLV RX4 461 RX4 yX4_isNearerAt cX4_isNearerAt 3 (some .boolean) 2 := ⟨lw_V q1931 q1933 qs141 q159 q1934, by decide +kernel⟩
theorem cl_X4_466 : CLV RX4 466 RX4 yX4_begins cX4_begins 3 none 0 := ⟨lw_V q1948 q1950 qs143 q159 q1951, by decide +kernel⟩
theorem cl_X4_469 : CLV RX4 469 RX4 yX4_areNotesSo cX4_areNotesSo 3 (some .boolean) 0 := ⟨lw_V q1952 q1954 qs144 q159 q1955, by decide +kernel⟩
theorem cl_X4_472 : CLV RX4 472 RX4 yX4_gathersRules cX4_gathersRules 6 none 1 := ⟨lw_V q1944 q1946 qs142 q159 q1947, by decide +kernel⟩
theorem cl_X4_475 : CLV RX4 475 RX4 yX4_alikeOf cX4_alikeOf 6 (some .int) 1 := ⟨lw_V q1960 q1962 qs145 q159 q1963, by decide +kernel⟩
theorem cl_X4_493 : CLV RX4 493 RX4 yX4_draw cX4_draw 2 (some .int) 1 := ⟨lw_V q1981 q1983 qs148 q159 q1984, by decide +kernel⟩
theorem cl_X4_498 : CLV RX4 498 RX4 yX4_countOf cX4_countOf 4 (some .int) 1 := ⟨lw_V q1973 q1975 qs146 q159 q1976, by decide +kernel⟩
theorem cl_X4_501 : CLV RX4 501 RX4 yX4_aimsDrawn cX4_aimsDrawn 2 none 0 := ⟨lw_V q1977 q1979 qs147 q159 q1980, by decide +kernel⟩
theorem cl_J5_335 : CLV RJ5 335 RJ5 yJ5_coder cJ5_coder 1 (some .byte) 0 := ⟨lw_V q554 q555 q556 q161 q557, by decide +kernel⟩
theorem cl_J5_492 : CLV RJ5 492 RJ5 yJ5_isLatin1 cJ5_isLatin1 1 (some .boolean) 0 := ⟨lw_V q564 q565 q566 q161 q567, by decide +kernel⟩
theorem cl_J5_495 : CLS RJ5 495 yJ6_charAt cJ6_charAt 2 (some .char) 2 := ⟨lw_S q568 q569 q162 q570, by decide +kernel⟩
theorem cl_J5_498 : CLS RJ5 498 yJ8_charAt cJ8_charAt 2 (some .char) 2 := ⟨lw_S q579 q580 q164 q581, by decide +kernel⟩
theorem cl_J5_1059 : CLS RJ5 1059 yJ7_checkIndex cJ7_checkIndex 3 (some .int) 3 := ⟨lw_S q576 q577 q163 q578, by decide +kernel⟩
theorem cl_J6_9 : CLS RJ6 9 yJ5_checkIndex cJ5_checkIndex 2 none 2 := ⟨lw_S q571 q572 q161 q573, by decide +kernel⟩
theorem cl_J8_48 : CLS RJ8 48 yJ8_length cJ8_length 1 (some .int) 1 := ⟨lw_S q585 q586 q164 q587, by decide +kernel⟩
theorem cl_J8_67 : CLS RJ8 67 yJ8_checkIndex cJ8_checkIndex 2 none 2 := ⟨lw_S q582 q583 q164 q584, by decide +kernel⟩
theorem cl_J8_71 : CLS RJ8 71 yJ8_getChar cJ8_getChar 2 (some .char) 2 := ⟨lw_S q589 q590 q164 q591, by decide +kernel⟩
theorem cl_J8_414 : CLS RJ8 414 yJ5_checkIndex cJ5_checkIndex 2 none 2 := ⟨lw_S q588 q572 q161 q573, by decide +kernel⟩
theorem cl_J2_66 : CLS RJ2 66 yJ13_copyOf cJ13_copyOf 2 (some (.array (.object "java/lang/Object"))) 2 := ⟨lw_S q695 q696 q170 q697, by decide +kernel⟩
theorem cl_J2_69 : CLV RJ2 69 RJ2 yJ2_grow_2 cJ2_grow_2 4 (some (.array (.object "java/lang/Object"))) 1 := ⟨lw_V q679 q681 qs14 q154 q682, by decide +kernel⟩
theorem cl_J2_73 : CLS RJ2 73 yJ11_newLength cJ11_newLength 4 (some .int) 3 := ⟨lw_S q685 q686 q168 q687, by decide +kernel⟩
theorem cl_J2_79 : CLS RJ2 79 yJ12_max cJ12_max 2 (some .int) 2 := ⟨lw_S q731 q689 q169 q690, by decide +kernel⟩
theorem cl_J2_118 : CLS RJ2 118 yJ9_checkIndex cJ9_checkIndex 2 (some .int) 2 := ⟨lw_S q631 q632 q165 q633, by decide +kernel⟩
theorem cl_J2_123 : CLV RJ2 123 RJ2 yJ2_elementData cJ2_elementData 2 (some (.object "java/lang/Object")) 1 := ⟨lw_V q635 q636 q637 q154 q638, by decide +kernel⟩
theorem cl_J2_129 : CLV RJ2 129 RJ2 yJ2_grow cJ2_grow 1 (some (.array (.object "java/lang/Object"))) 0 := ⟨lw_V q675 q677 qs13 q154 q678, by decide +kernel⟩
theorem cl_J2_131 : CLV RJ2 131 RJ2 yJ2_add_2 cJ2_add_2 4 none 3 := ⟨lw_V q671 q673 qs12 q154 q674, by decide +kernel⟩
theorem cl_J13_300 : CLS RJ13 300 yJ13_copyOf_2 cJ13_copyOf_2 4 (some (.array (.object "java/lang/Object"))) 3 := ⟨lw_S q720 q721 q170 q722, by decide +kernel⟩
theorem cl_J13_304 : CLS RJ13 304 yJ12_min cJ12_min 2 (some .int) 2 := ⟨lw_S q725 q726 q169 q727, by decide +kernel⟩
theorem cl_J9_105 : CLS RJ9 105 yJ7_checkIndex cJ7_checkIndex 3 (some .int) 3 := ⟨lw_S q634 q577 q163 q578, by decide +kernel⟩
theorem cl_J11_194 : CLS RJ11 194 yJ12_max cJ12_max 2 (some .int) 2 := ⟨lw_S q688 q689 q169 q690, by decide +kernel⟩
theorem cl_J11_201 : CLS RJ11 201 yJ11_hugeLength cJ11_hugeLength 3 (some .int) 2 := ⟨lw_S q692 q693 q168 q694, by decide +kernel⟩
