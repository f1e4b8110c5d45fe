/-! LINKS -/
theorem kcX0 : jC 0 RX0 TX0 16 := ⟨rfl, in_X0, fun j h => ⟨_, tyX0_ok j h⟩⟩
theorem kcX1 : jC 1 RX1 TX1 8 := ⟨rfl, in_X1, fun j h => ⟨_, tyX1_ok j h⟩⟩
theorem kcX2 : jC 2 RX2 TX2 7 := ⟨rfl, in_X2, fun j h => ⟨_, tyX2_ok j h⟩⟩
theorem kcX3 : jC 3 RX3 TX3 2 := ⟨rfl, in_X3, fun j h => ⟨_, tyX3_ok j h⟩⟩
theorem kcX4 : jC 4 RX4 TX4 1 := ⟨rfl, in_X4, fun j h => ⟨_, tyX4_ok j h⟩⟩
theorem kcX5 : jC 5 RX5 TX5 12 := ⟨rfl, in_X5, fun j h => ⟨_, tyX5_ok j h⟩⟩
theorem kcX6 : jC 6 RX6 TX6 52 := ⟨rfl, in_X6, fun j h => ⟨_, tyX6_ok j h⟩⟩
theorem kcX7 : jC 7 RX7 TX7 2 := ⟨rfl, in_X7, fun j h => ⟨_, tyX7_ok j h⟩⟩
theorem kcX9 : jC 9 RX9 TX9 11 := ⟨rfl, in_X9, fun j h => ⟨_, tyX9_ok j h⟩⟩
theorem kcX10 : jC 10 RX10 TX10 7 := ⟨rfl, in_X10, fun j h => ⟨_, tyX10_ok j h⟩⟩
theorem kcX12 : jC 12 RX12 TX12 1 := ⟨rfl, in_X12, fun j h => ⟨_, tyX12_ok j h⟩⟩
theorem kcX13 : jC 13 RX13 TX13 1 := ⟨rfl, in_X13, fun j h => ⟨_, tyX13_ok j h⟩⟩
theorem kcX14 : jC 14 RX14 TX14 3 := ⟨rfl, in_X14, fun j h => ⟨_, tyX14_ok j h⟩⟩
theorem kcX15 : jC 15 RX15 TX15 3 := ⟨rfl, in_X15, fun j h => ⟨_, tyX15_ok j h⟩⟩
theorem kcX16 : jC 16 RX16 TX16 4 := ⟨rfl, in_X16, fun j h => ⟨_, tyX16_ok j h⟩⟩
theorem kcX18 : jC 18 RX18 TX18 3 := ⟨rfl, in_X18, fun j h => ⟨_, tyX18_ok j h⟩⟩
theorem kcX19 : jC 19 RX19 TX19 1 := ⟨rfl, in_X19, fun j h => ⟨_, tyX19_ok j h⟩⟩
theorem kcX20 : jC 20 RX20 TX20 2 := ⟨rfl, in_X20, fun j h => ⟨_, tyX20_ok j h⟩⟩
theorem kcX22 : jC 22 RX22 TX22 5 := ⟨rfl, in_X22, fun j h => ⟨_, tyX22_ok j h⟩⟩
theorem kcX23 : jC 23 RX23 TX23 6 := ⟨rfl, in_X23, fun j h => ⟨_, tyX23_ok j h⟩⟩
theorem kcX24 : jC 24 RX24 TX24 6 := ⟨rfl, in_X24, fun j h => ⟨_, tyX24_ok j h⟩⟩
theorem kcX25 : jC 25 RX25 TX25 10 := ⟨rfl, in_X25, fun j h => ⟨_, tyX25_ok j h⟩⟩
theorem kcX26 : jC 26 RX26 TX26 2 := ⟨rfl, in_X26, fun j h => ⟨_, tyX26_ok j h⟩⟩
theorem kcX27 : jC 27 RX27 TX27 1 := ⟨rfl, in_X27, fun j h => ⟨_, tyX27_ok j h⟩⟩
theorem kcJ2 : jC 32 RJ2 TJ2 3 := ⟨rfl, in_J2, fun j h => ⟨_, tyJ2_ok j h⟩⟩
theorem kcJ12 : jC 42 RJ12 TJ12 6 := ⟨rfl, in_J12, fun j h => ⟨_, tyJ12_ok j h⟩⟩
theorem kcJ13 : jC 43 RJ13 TJ13 2 := ⟨rfl, in_J13, fun j h => ⟨_, tyJ13_ok j h⟩⟩
theorem fp_J1_7 : jFP RJ1 7 32 0 .int := ⟨RJ2, TJ2, 3, _, kcJ2, by decide, Or.inl q195, Or.inl rfl, by decide +kernel, fun j hj h => nmJ2 j hj 0 (by decide) h, rfl⟩
theorem fl_J13_9 : jFL RJ13 9 43 0 := ⟨RJ13, TJ13, 2, _, kcJ13, by decide, Or.inl q2463, Or.inl rfl⟩
theorem fl_J13_15 : jFL RJ13 15 43 1 := ⟨RJ13, TJ13, 2, _, kcJ13, by decide, Or.inl q2464, Or.inl rfl⟩
theorem fl_J2_9 : jFL RJ2 9 32 1 := ⟨RJ2, TJ2, 3, _, kcJ2, by decide, Or.inl q193, Or.inl rfl⟩
theorem fp_J2_9 : jFP RJ2 9 32 1 (.array (.object "java/lang/Object")) := ⟨RJ2, TJ2, 3, _, kcJ2, by decide, Or.inl q193, Or.inl rfl, by decide +kernel, fun j hj h => nmJ2 j hj 1 (by decide) h, rfl⟩
theorem fl_J2_48 : jFL RJ2 48 32 2 := ⟨RJ2, TJ2, 3, _, kcJ2, by decide, Or.inl q194, Or.inl rfl⟩
theorem fp_J2_48 : jFP RJ2 48 32 2 .int := ⟨RJ2, TJ2, 3, _, kcJ2, by decide, Or.inl q194, Or.inl rfl, by decide +kernel, fun j hj h => nmJ2 j hj 2 (by decide) h, rfl⟩
theorem fl_J2_63 : jFL RJ2 63 32 0 := ⟨RJ2, TJ2, 3, _, kcJ2, by decide, Or.inl q196, Or.inr q197⟩
theorem fp_J2_63 : jFP RJ2 63 32 0 .int := ⟨RJ2, TJ2, 3, _, kcJ2, by decide, Or.inl q196, Or.inr q197, by decide +kernel, fun j hj h => nmJ2 j hj 0 (by decide) h, rfl⟩
theorem fp_J8_31_10 : jFP RJ8 31 10 3 (.object "java/lang/String") := ⟨RX10, TX10, 7, _, kcX10, by decide, Or.inl q669, Or.inl rfl, by decide +kernel, fun j hj h => nmX10 j hj 3 (by decide) h, rfl⟩
theorem fp_J8_31_42 : jFP RJ8 31 42 1 (.object "java/lang/String") := ⟨RJ12, TJ12, 6, _, kcJ12, by decide, Or.inl q669, Or.inl rfl, by decide +kernel, fun j hj h => nmJ12 j hj 1 (by decide) h, rfl⟩
theorem fp_J8_7_10 : jFP RJ8 7 10 0 (.object "java/lang/Throwable") := ⟨RX10, TX10, 7, _, kcX10, by decide, Or.inl q670, Or.inl rfl, by decide +kernel, fun j hj h => nmX10 j hj 0 (by decide) h, rfl⟩
theorem fp_J8_7_42 : jFP RJ8 7 42 2 (.object "java/lang/Throwable") := ⟨RJ12, TJ12, 6, _, kcJ12, by decide, Or.inl q670, Or.inl rfl, by decide +kernel, fun j hj h => nmJ12 j hj 2 (by decide) h, rfl⟩
theorem fp_J8_17_10 : jFP RJ8 17 10 1 (.array (.object "java/lang/StackTraceElement")) := ⟨RX10, TX10, 7, _, kcX10, by decide, Or.inl q671, Or.inl rfl, by decide +kernel, fun j hj h => nmX10 j hj 1 (by decide) h, rfl⟩
theorem fp_J8_17_42 : jFP RJ8 17 42 3 (.array (.object "java/lang/StackTraceElement")) := ⟨RJ12, TJ12, 6, _, kcJ12, by decide, Or.inl q671, Or.inl rfl, by decide +kernel, fun j hj h => nmJ12 j hj 3 (by decide) h, rfl⟩
theorem fp_J8_24_10 : jFP RJ8 24 10 2 (.object "java/util/List") := ⟨RX10, TX10, 7, _, kcX10, by decide, Or.inl q672, Or.inl rfl, by decide +kernel, fun j hj h => nmX10 j hj 2 (by decide) h, rfl⟩
theorem fp_J8_24_42 : jFP RJ8 24 42 5 (.object "java/util/List") := ⟨RJ12, TJ12, 6, _, kcJ12, by decide, Or.inl q672, Or.inl rfl, by decide +kernel, fun j hj h => nmJ12 j hj 5 (by decide) h, rfl⟩
theorem fl_X0_10 : jFL RX0 10 0 0 := ⟨RX0, TX0, 16, _, kcX0, by decide, Or.inl q380, Or.inl rfl⟩
theorem fp_X0_10 : jFP RX0 10 0 0 (.object "LitStrangers$Coast") := ⟨RX0, TX0, 16, _, kcX0, by decide, Or.inl q380, Or.inl rfl, by decide +kernel, fun j hj h => nmX0 j hj 0 (by decide) h, rfl⟩
theorem fl_X0_16 : jFL RX0 16 0 1 := ⟨RX0, TX0, 16, _, kcX0, by decide, Or.inl q381, Or.inl rfl⟩
theorem ff_X0_16 : jFF RX0 16 0 1 1 (.array (.object "LitStrangers$Coast")) := ⟨RX0, TX0, 16, _, kcX0, by decide, q381, Or.inl rfl, by decide +kernel, by decide, rfl, rfl⟩
theorem fl_X0_23 : jFL RX0 23 0 2 := ⟨RX0, TX0, 16, _, kcX0, by decide, Or.inl q382, Or.inl rfl⟩
theorem ff_X0_23 : jFF RX0 23 0 2 2 (.object "java/util/ArrayList") := ⟨RX0, TX0, 16, _, kcX0, by decide, q382, Or.inl rfl, by decide +kernel, by decide, rfl, rfl⟩
theorem fl_X0_30 : jFL RX0 30 0 3 := ⟨RX0, TX0, 16, _, kcX0, by decide, Or.inl q383, Or.inl rfl⟩
theorem ff_X0_30 : jFF RX0 30 0 3 3 (.object "LitStrangers$Asked") := ⟨RX0, TX0, 16, _, kcX0, by decide, q383, Or.inl rfl, by decide +kernel, by decide, rfl, rfl⟩
theorem ff_X0_34 : jFF RX0 34 0 4 4 (.object "LitStrangers$Asked") := ⟨RX0, TX0, 16, _, kcX0, by decide, q385, Or.inl rfl, by decide +kernel, by decide, rfl, rfl⟩
theorem fl_X0_44 : jFL RX0 44 0 5 := ⟨RX0, TX0, 16, _, kcX0, by decide, Or.inl q386, Or.inl rfl⟩
theorem ff_X0_44 : jFF RX0 44 0 5 5 (.object "LitStrangers$Text") := ⟨RX0, TX0, 16, _, kcX0, by decide, q386, Or.inl rfl, by decide +kernel, by decide, rfl, rfl⟩
theorem fl_X0_48 : jFL RX0 48 0 6 := ⟨RX0, TX0, 16, _, kcX0, by decide, Or.inl q387, Or.inl rfl⟩
theorem ff_X0_48 : jFF RX0 48 0 6 6 (.array .int) := ⟨RX0, TX0, 16, _, kcX0, by decide, q387, Or.inl rfl, by decide +kernel, by decide, rfl, rfl⟩
theorem fl_X0_78 : jFL RX0 78 0 7 := ⟨RX0, TX0, 16, _, kcX0, by decide, Or.inl q388, Or.inl rfl⟩
theorem fp_X0_78 : jFP RX0 78 0 7 .int := ⟨RX0, TX0, 16, _, kcX0, by decide, Or.inl q388, Or.inl rfl, by decide +kernel, fun j hj h => nmX0 j hj 7 (by decide) h, rfl⟩
theorem fl_X0_52 : jFL RX0 52 0 8 := ⟨RX0, TX0, 16, _, kcX0, by decide, Or.inl q389, Or.inl rfl⟩
theorem fp_X0_52 : jFP RX0 52 0 8 .int := ⟨RX0, TX0, 16, _, kcX0, by decide, Or.inl q389, Or.inl rfl, by decide +kernel, fun j hj h => nmX0 j hj 8 (by decide) h, rfl⟩
theorem fl_X0_206 : jFL RX0 206 0 9 := ⟨RX0, TX0, 16, _, kcX0, by decide, Or.inl q390, Or.inl rfl⟩
theorem fp_X0_206 : jFP RX0 206 0 9 .int := ⟨RX0, TX0, 16, _, kcX0, by decide, Or.inl q390, Or.inl rfl, by decide +kernel, fun j hj h => nmX0 j hj 9 (by decide) h, rfl⟩
theorem fl_X0_56 : jFL RX0 56 0 10 := ⟨RX0, TX0, 16, _, kcX0, by decide, Or.inl q391, Or.inl rfl⟩
theorem fp_X0_56 : jFP RX0 56 0 10 .int := ⟨RX0, TX0, 16, _, kcX0, by decide, Or.inl q391, Or.inl rfl, by decide +kernel, fun j hj h => nmX0 j hj 10 (by decide) h, rfl⟩
theorem fl_X0_59 : jFL RX0 59 0 11 := ⟨RX0, TX0, 16, _, kcX0, by decide, Or.inl q393, Or.inl rfl⟩
theorem ff_X0_59 : jFF RX0 59 0 11 11 (.array .byte) := ⟨RX0, TX0, 16, _, kcX0, by decide, q393, Or.inl rfl, by decide +kernel, by decide, rfl, rfl⟩
theorem fl_X0_110 : jFL RX0 110 0 12 := ⟨RX0, TX0, 16, _, kcX0, by decide, Or.inl q396, Or.inl rfl⟩
theorem fp_X0_110 : jFP RX0 110 0 12 .int := ⟨RX0, TX0, 16, _, kcX0, by decide, Or.inl q396, Or.inl rfl, by decide +kernel, fun j hj h => nmX0 j hj 12 (by decide) h, rfl⟩
theorem fl_X0_68 : jFL RX0 68 0 13 := ⟨RX0, TX0, 16, _, kcX0, by decide, Or.inl q397, Or.inl rfl⟩
theorem ff_X0_68 : jFF RX0 68 0 13 13 (.object "LitStrangers$Nights") := ⟨RX0, TX0, 16, _, kcX0, by decide, q397, Or.inl rfl, by decide +kernel, by decide, rfl, rfl⟩
theorem fl_X0_409 : jFL RX0 409 0 14 := ⟨RX0, TX0, 16, _, kcX0, by decide, Or.inl q399, Or.inl rfl⟩
theorem fp_X0_409 : jFP RX0 409 0 14 .int := ⟨RX0, TX0, 16, _, kcX0, by decide, Or.inl q399, Or.inl rfl, by decide +kernel, fun j hj h => nmX0 j hj 14 (by decide) h, rfl⟩
theorem fl_X0_437 : jFL RX0 437 0 15 := ⟨RX0, TX0, 16, _, kcX0, by decide, Or.inl q400, Or.inl rfl⟩
theorem fp_X0_437 : jFP RX0 437 0 15 (.array .int) := ⟨RX0, TX0, 16, _, kcX0, by decide, Or.inl q400, Or.inl rfl, by decide +kernel, fun j hj h => nmX0 j hj 15 (by decide) h, rfl⟩
theorem fl_X0_401_22 : jFL RX0 401 22 1 := ⟨RX22, TX22, 5, _, kcX22, by decide, Or.inl q1155, Or.inl rfl⟩
theorem fl_X0_401_23 : jFL RX0 401 23 1 := ⟨RX23, TX23, 6, _, kcX23, by decide, Or.inl q1155, Or.inl rfl⟩
theorem fl_X0_401_24 : jFL RX0 401 24 1 := ⟨RX24, TX24, 6, _, kcX24, by decide, Or.inl q1155, Or.inl rfl⟩
theorem fl_X1_12 : jFL RX1 12 1 0 := ⟨RX1, TX1, 8, _, kcX1, by decide, Or.inl q250, Or.inl rfl⟩
theorem ff_X1_12 : jFF RX1 12 1 0 0 (.object "java/util/ArrayList") := ⟨RX1, TX1, 8, _, kcX1, by decide, q250, Or.inl rfl, by decide +kernel, by decide, rfl, rfl⟩
theorem fl_X1_18 : jFL RX1 18 1 1 := ⟨RX1, TX1, 8, _, kcX1, by decide, Or.inl q252, Or.inl rfl⟩
theorem ff_X1_18 : jFF RX1 18 1 1 1 (.object "java/util/ArrayList") := ⟨RX1, TX1, 8, _, kcX1, by decide, q252, Or.inl rfl, by decide +kernel, by decide, rfl, rfl⟩
theorem fl_X1_24 : jFL RX1 24 1 2 := ⟨RX1, TX1, 8, _, kcX1, by decide, Or.inl q255, Or.inl rfl⟩
theorem ff_X1_24 : jFF RX1 24 1 2 2 (.object "LitStrangers$Books") := ⟨RX1, TX1, 8, _, kcX1, by decide, q255, Or.inl rfl, by decide +kernel, by decide, rfl, rfl⟩
theorem fl_X1_28 : jFL RX1 28 1 3 := ⟨RX1, TX1, 8, _, kcX1, by decide, Or.inl q257, Or.inl rfl⟩
theorem ff_X1_28 : jFF RX1 28 1 3 3 (.array .int) := ⟨RX1, TX1, 8, _, kcX1, by decide, q257, Or.inl rfl, by decide +kernel, by decide, rfl, rfl⟩
theorem fl_X1_32 : jFL RX1 32 1 4 := ⟨RX1, TX1, 8, _, kcX1, by decide, Or.inl q260, Or.inl rfl⟩
theorem ff_X1_32 : jFF RX1 32 1 4 4 (.array .boolean) := ⟨RX1, TX1, 8, _, kcX1, by decide, q260, Or.inl rfl, by decide +kernel, by decide, rfl, rfl⟩
theorem fl_X1_36 : jFL RX1 36 1 5 := ⟨RX1, TX1, 8, _, kcX1, by decide, Or.inl q262, Or.inl rfl⟩
theorem fp_X1_36 : jFP RX1 36 1 5 .int := ⟨RX1, TX1, 8, _, kcX1, by decide, Or.inl q262, Or.inl rfl, by decide +kernel, fun j hj h => nmX1 j hj 5 (by decide) h, rfl⟩
theorem fl_X1_58 : jFL RX1 58 1 6 := ⟨RX1, TX1, 8, _, kcX1, by decide, Or.inl q264, Or.inl rfl⟩
theorem fp_X1_58 : jFP RX1 58 1 6 .int := ⟨RX1, TX1, 8, _, kcX1, by decide, Or.inl q264, Or.inl rfl, by decide +kernel, fun j hj h => nmX1 j hj 6 (by decide) h, rfl⟩
theorem fl_X1_40 : jFL RX1 40 1 7 := ⟨RX1, TX1, 8, _, kcX1, by decide, Or.inl q266, Or.inl rfl⟩
theorem fp_X1_40 : jFP RX1 40 1 7 .int := ⟨RX1, TX1, 8, _, kcX1, by decide, Or.inl q266, Or.inl rfl, by decide +kernel, fun j hj h => nmX1 j hj 7 (by decide) h, rfl⟩
theorem ff_X10_7 : jFF RX10 7 10 6 6 .int := ⟨RX10, TX10, 7, _, kcX10, by decide, q836, Or.inl rfl, by decide +kernel, by decide, rfl, rfl⟩
theorem fl_X12_7 : jFL RX12 7 12 0 := ⟨RX12, TX12, 1, _, kcX12, by decide, Or.inl q965, Or.inl rfl⟩
theorem ff_X12_7 : jFF RX12 7 12 0 0 .int := ⟨RX12, TX12, 1, _, kcX12, by decide, q965, Or.inl rfl, by decide +kernel, by decide, rfl, rfl⟩
theorem fl_X13_7 : jFL RX13 7 13 0 := ⟨RX13, TX13, 1, _, kcX13, by decide, Or.inl q982, Or.inl rfl⟩
theorem ff_X13_7 : jFF RX13 7 13 0 0 .int := ⟨RX13, TX13, 1, _, kcX13, by decide, q982, Or.inl rfl, by decide +kernel, by decide, rfl, rfl⟩
theorem fl_X14_15 : jFL RX14 15 14 0 := ⟨RX14, TX14, 3, _, kcX14, by decide, Or.inl q996, Or.inl rfl⟩
theorem ff_X14_15 : jFF RX14 15 14 0 0 .boolean := ⟨RX14, TX14, 3, _, kcX14, by decide, q996, Or.inl rfl, by decide +kernel, by decide, rfl, rfl⟩
theorem fl_X14_19 : jFL RX14 19 14 1 := ⟨RX14, TX14, 3, _, kcX14, by decide, Or.inl q997, Or.inl rfl⟩
theorem ff_X14_19 : jFF RX14 19 14 1 1 .int := ⟨RX14, TX14, 3, _, kcX14, by decide, q997, Or.inl rfl, by decide +kernel, by decide, rfl, rfl⟩
theorem fl_X14_3 : jFL RX14 3 14 2 := ⟨RX14, TX14, 3, _, kcX14, by decide, Or.inl q998, Or.inl rfl⟩
theorem ff_X14_3 : jFF RX14 3 14 2 2 (.object "LitStrangers") := ⟨RX14, TX14, 3, _, kcX14, by decide, q998, Or.inl rfl, by decide +kernel, by decide, rfl, rfl⟩
theorem fl_X15_7 : jFL RX15 7 15 0 := ⟨RX15, TX15, 3, _, kcX15, by decide, Or.inl q1018, Or.inl rfl⟩
theorem ff_X15_7 : jFF RX15 7 15 0 0 (.object "LitStrangers$Sum") := ⟨RX15, TX15, 3, _, kcX15, by decide, q1018, Or.inl rfl, by decide +kernel, by decide, rfl, rfl⟩
theorem fl_X15_17 : jFL RX15 17 15 1 := ⟨RX15, TX15, 3, _, kcX15, by decide, Or.inl q1019, Or.inl rfl⟩
theorem ff_X15_17 : jFF RX15 17 15 1 1 (.object "LitStrangers$Sum") := ⟨RX15, TX15, 3, _, kcX15, by decide, q1019, Or.inl rfl, by decide +kernel, by decide, rfl, rfl⟩
theorem fl_X15_13 : jFL RX15 13 15 2 := ⟨RX15, TX15, 3, _, kcX15, by decide, Or.inl q1020, Or.inl rfl⟩
theorem ff_X15_13 : jFF RX15 13 15 2 2 .int := ⟨RX15, TX15, 3, _, kcX15, by decide, q1020, Or.inl rfl, by decide +kernel, by decide, rfl, rfl⟩
theorem ff_X16_7 : jFF RX16 7 16 0 0 .int := ⟨RX16, TX16, 4, _, kcX16, by decide, q1114, Or.inl rfl, by decide +kernel, by decide, rfl, rfl⟩
theorem fl_X16_13 : jFL RX16 13 16 1 := ⟨RX16, TX16, 4, _, kcX16, by decide, Or.inl q1116, Or.inl rfl⟩
theorem ff_X16_13 : jFF RX16 13 16 1 1 (.object "LitStrangers$Sum") := ⟨RX16, TX16, 4, _, kcX16, by decide, q1116, Or.inl rfl, by decide +kernel, by decide, rfl, rfl⟩
theorem fl_X16_17 : jFL RX16 17 16 2 := ⟨RX16, TX16, 4, _, kcX16, by decide, Or.inl q1117, Or.inl rfl⟩
theorem ff_X16_17 : jFF RX16 17 16 2 2 (.object "LitStrangers$Test") := ⟨RX16, TX16, 4, _, kcX16, by decide, q1117, Or.inl rfl, by decide +kernel, by decide, rfl, rfl⟩
theorem fp_X16_38 : jFP RX16 38 16 3 .long := ⟨RX16, TX16, 4, _, kcX16, by decide, Or.inl q1118, Or.inl rfl, by decide +kernel, fun j hj h => nmX16 j hj 3 (by decide) h, rfl⟩
theorem fl_X18_7 : jFL RX18 7 18 0 := ⟨RX18, TX18, 3, _, kcX18, by decide, Or.inl q1066, Or.inl rfl⟩
theorem ff_X18_7 : jFF RX18 7 18 0 0 (.object "LitStrangers$Sum") := ⟨RX18, TX18, 3, _, kcX18, by decide, q1066, Or.inl rfl, by decide +kernel, by decide, rfl, rfl⟩
theorem fl_X18_17 : jFL RX18 17 18 1 := ⟨RX18, TX18, 3, _, kcX18, by decide, Or.inl q1067, Or.inl rfl⟩
theorem ff_X18_17 : jFF RX18 17 18 1 1 (.object "LitStrangers$Sum") := ⟨RX18, TX18, 3, _, kcX18, by decide, q1067, Or.inl rfl, by decide +kernel, by decide, rfl, rfl⟩
theorem fl_X18_13 : jFL RX18 13 18 2 := ⟨RX18, TX18, 3, _, kcX18, by decide, Or.inl q1068, Or.inl rfl⟩
theorem ff_X18_13 : jFF RX18 13 18 2 2 .int := ⟨RX18, TX18, 3, _, kcX18, by decide, q1068, Or.inl rfl, by decide +kernel, by decide, rfl, rfl⟩
theorem fl_X19_7 : jFL RX19 7 19 0 := ⟨RX19, TX19, 1, _, kcX19, by decide, Or.inl q1082, Or.inl rfl⟩
theorem ff_X19_7 : jFF RX19 7 19 0 0 (.object "LitStrangers$Test") := ⟨RX19, TX19, 1, _, kcX19, by decide, q1082, Or.inl rfl, by decide +kernel, by decide, rfl, rfl⟩
theorem fl_X2_9 : jFL RX2 9 2 0 := ⟨RX2, TX2, 7, _, kcX2, by decide, Or.inl q211, Or.inl rfl⟩
theorem ff_X2_9 : jFF RX2 9 2 0 0 (.array .int) := ⟨RX2, TX2, 7, _, kcX2, by decide, q211, Or.inl rfl, by decide +kernel, by decide, rfl, rfl⟩
theorem fl_X2_15 : jFL RX2 15 2 1 := ⟨RX2, TX2, 7, _, kcX2, by decide, Or.inl q215, Or.inl rfl⟩
theorem ff_X2_15 : jFF RX2 15 2 1 1 (.array .int) := ⟨RX2, TX2, 7, _, kcX2, by decide, q215, Or.inl rfl, by decide +kernel, by decide, rfl, rfl⟩
theorem fl_X2_18 : jFL RX2 18 2 2 := ⟨RX2, TX2, 7, _, kcX2, by decide, Or.inl q218, Or.inl rfl⟩
theorem ff_X2_18 : jFF RX2 18 2 2 2 (.array .int) := ⟨RX2, TX2, 7, _, kcX2, by decide, q218, Or.inl rfl, by decide +kernel, by decide, rfl, rfl⟩
theorem fl_X2_27 : jFL RX2 27 2 3 := ⟨RX2, TX2, 7, _, kcX2, by decide, Or.inl q221, Or.inl rfl⟩
theorem fp_X2_27 : jFP RX2 27 2 3 .int := ⟨RX2, TX2, 7, _, kcX2, by decide, Or.inl q221, Or.inl rfl, by decide +kernel, fun j hj h => nmX2 j hj 3 (by decide) h, rfl⟩
theorem fl_X2_31 : jFL RX2 31 2 4 := ⟨RX2, TX2, 7, _, kcX2, by decide, Or.inl q225, Or.inl rfl⟩
theorem fp_X2_31 : jFP RX2 31 2 4 .int := ⟨RX2, TX2, 7, _, kcX2, by decide, Or.inl q225, Or.inl rfl, by decide +kernel, fun j hj h => nmX2 j hj 4 (by decide) h, rfl⟩
theorem fl_X2_34 : jFL RX2 34 2 5 := ⟨RX2, TX2, 7, _, kcX2, by decide, Or.inl q228, Or.inl rfl⟩
theorem fp_X2_34 : jFP RX2 34 2 5 .int := ⟨RX2, TX2, 7, _, kcX2, by decide, Or.inl q228, Or.inl rfl, by decide +kernel, fun j hj h => nmX2 j hj 5 (by decide) h, rfl⟩
theorem fl_X2_37 : jFL RX2 37 2 6 := ⟨RX2, TX2, 7, _, kcX2, by decide, Or.inl q231, Or.inl rfl⟩
theorem fp_X2_37 : jFP RX2 37 2 6 .int := ⟨RX2, TX2, 7, _, kcX2, by decide, Or.inl q231, Or.inl rfl, by decide +kernel, fun j hj h => nmX2 j hj 6 (by decide) h, rfl⟩
theorem fl_X20_7 : jFL RX20 7 20 0 := ⟨RX20, TX20, 2, _, kcX20, by decide, Or.inl q1102, Or.inl rfl⟩
theorem ff_X20_7 : jFF RX20 7 20 0 0 .boolean := ⟨RX20, TX20, 2, _, kcX20, by decide, q1102, Or.inl rfl, by decide +kernel, by decide, rfl, rfl⟩
theorem fl_X20_13 : jFL RX20 13 20 1 := ⟨RX20, TX20, 2, _, kcX20, by decide, Or.inl q1103, Or.inl rfl⟩
theorem ff_X20_13 : jFF RX20 13 20 1 1 (.array (.object "LitStrangers$Test")) := ⟨RX20, TX20, 2, _, kcX20, by decide, q1103, Or.inl rfl, by decide +kernel, by decide, rfl, rfl⟩
theorem fl_X21_66_22 : jFL RX21 66 22 0 := ⟨RX22, TX22, 5, _, kcX22, by decide, Or.inl q1151, Or.inl rfl⟩
theorem fl_X21_66_23 : jFL RX21 66 23 0 := ⟨RX23, TX23, 6, _, kcX23, by decide, Or.inl q1151, Or.inl rfl⟩
theorem fl_X21_66_24 : jFL RX21 66 24 0 := ⟨RX24, TX24, 6, _, kcX24, by decide, Or.inl q1151, Or.inl rfl⟩
theorem fp_X21_15_22 : jFP RX21 15 22 1 .int := ⟨RX22, TX22, 5, _, kcX22, by decide, Or.inl q1153, Or.inl rfl, by decide +kernel, by decide, rfl⟩
theorem fp_X21_15_23 : jFP RX21 15 23 1 .int := ⟨RX23, TX23, 6, _, kcX23, by decide, Or.inl q1153, Or.inl rfl, by decide +kernel, by decide, rfl⟩
theorem fp_X21_15_24 : jFP RX21 15 24 1 .int := ⟨RX24, TX24, 6, _, kcX24, by decide, Or.inl q1153, Or.inl rfl, by decide +kernel, by decide, rfl⟩
theorem fl_X21_63_22 : jFL RX21 63 22 2 := ⟨RX22, TX22, 5, _, kcX22, by decide, Or.inl q1156, Or.inl rfl⟩
theorem fp_X21_63_22 : jFP RX21 63 22 2 .boolean := ⟨RX22, TX22, 5, _, kcX22, by decide, Or.inl q1156, Or.inl rfl, by decide +kernel, by decide, rfl⟩
theorem fl_X21_63_23 : jFL RX21 63 23 2 := ⟨RX23, TX23, 6, _, kcX23, by decide, Or.inl q1156, Or.inl rfl⟩
theorem fp_X21_63_23 : jFP RX21 63 23 2 .boolean := ⟨RX23, TX23, 6, _, kcX23, by decide, Or.inl q1156, Or.inl rfl, by decide +kernel, by decide, rfl⟩
theorem fl_X21_63_24 : jFL RX21 63 24 2 := ⟨RX24, TX24, 6, _, kcX24, by decide, Or.inl q1156, Or.inl rfl⟩
theorem fp_X21_63_24 : jFP RX21 63 24 2 .boolean := ⟨RX24, TX24, 6, _, kcX24, by decide, Or.inl q1156, Or.inl rfl, by decide +kernel, by decide, rfl⟩
theorem fl_X21_3_22 : jFL RX21 3 22 3 := ⟨RX22, TX22, 5, _, kcX22, by decide, Or.inl q1157, Or.inl rfl⟩
theorem ff_X21_3_22 : jFF RX21 3 22 3 4 (.object "LitStrangers") := ⟨RX22, TX22, 5, _, kcX22, by decide, q1157, Or.inl rfl, by decide +kernel, by decide, rfl, rfl⟩
theorem fl_X21_3_23 : jFL RX21 3 23 3 := ⟨RX23, TX23, 6, _, kcX23, by decide, Or.inl q1157, Or.inl rfl⟩
theorem ff_X21_3_23 : jFF RX21 3 23 3 5 (.object "LitStrangers") := ⟨RX23, TX23, 6, _, kcX23, by decide, q1157, Or.inl rfl, by decide +kernel, by decide, rfl, rfl⟩
theorem fl_X21_3_24 : jFL RX21 3 24 3 := ⟨RX24, TX24, 6, _, kcX24, by decide, Or.inl q1157, Or.inl rfl⟩
theorem ff_X21_3_24 : jFF RX21 3 24 3 5 (.object "LitStrangers") := ⟨RX24, TX24, 6, _, kcX24, by decide, q1157, Or.inl rfl, by decide +kernel, by decide, rfl, rfl⟩
theorem fl_X22_1 : jFL RX22 1 22 4 := ⟨RX22, TX22, 5, _, kcX22, by decide, Or.inl q1150, Or.inl rfl⟩
theorem ff_X22_1 : jFF RX22 1 22 4 3 (.object "LitStrangers") := ⟨RX22, TX22, 5, _, kcX22, by decide, q1150, Or.inl rfl, by decide +kernel, by decide, rfl, rfl⟩
theorem fl_X23_13 : jFL RX23 13 23 4 := ⟨RX23, TX23, 6, _, kcX23, by decide, Or.inl q1179, Or.inl rfl⟩
theorem ff_X23_13 : jFF RX23 13 23 4 4 (.object "LitStrangers$Sum") := ⟨RX23, TX23, 6, _, kcX23, by decide, q1179, Or.inl rfl, by decide +kernel, by decide, rfl, rfl⟩
theorem fl_X23_1 : jFL RX23 1 23 5 := ⟨RX23, TX23, 6, _, kcX23, by decide, Or.inl q1180, Or.inl rfl⟩
theorem ff_X23_1 : jFF RX23 1 23 5 3 (.object "LitStrangers") := ⟨RX23, TX23, 6, _, kcX23, by decide, q1180, Or.inl rfl, by decide +kernel, by decide, rfl, rfl⟩
theorem fl_X24_13 : jFL RX24 13 24 4 := ⟨RX24, TX24, 6, _, kcX24, by decide, Or.inl q1200, Or.inl rfl⟩
theorem ff_X24_13 : jFF RX24 13 24 4 4 (.object "LitStrangers$Sum") := ⟨RX24, TX24, 6, _, kcX24, by decide, q1200, Or.inl rfl, by decide +kernel, by decide, rfl, rfl⟩
theorem fl_X24_1 : jFL RX24 1 24 5 := ⟨RX24, TX24, 6, _, kcX24, by decide, Or.inl q1201, Or.inl rfl⟩
theorem ff_X24_1 : jFF RX24 1 24 5 3 (.object "LitStrangers") := ⟨RX24, TX24, 6, _, kcX24, by decide, q1201, Or.inl rfl, by decide +kernel, by decide, rfl, rfl⟩
theorem fl_X25_47_9 : jFL RX25 47 9 0 := ⟨RX9, TX9, 11, _, kcX9, by decide, Or.inl q756, Or.inr q757⟩
theorem fl_X25_47_25 : jFL RX25 47 25 0 := ⟨RX25, TX25, 10, _, kcX25, by decide, Or.inl q756, Or.inr q757⟩
theorem fl_X25_51_9 : jFL RX25 51 9 1 := ⟨RX9, TX9, 11, _, kcX9, by decide, Or.inl q758, Or.inr q759⟩
theorem fl_X25_51_25 : jFL RX25 51 25 1 := ⟨RX25, TX25, 10, _, kcX25, by decide, Or.inl q758, Or.inr q759⟩
theorem fp_X25_123_22 : jFP RX25 123 22 0 (.object "LitStrangers$Test") := ⟨RX22, TX22, 5, _, kcX22, by decide, Or.inl q1152, Or.inl rfl, by decide +kernel, by decide, rfl⟩
theorem fp_X25_123_23 : jFP RX25 123 23 0 (.object "LitStrangers$Test") := ⟨RX23, TX23, 6, _, kcX23, by decide, Or.inl q1152, Or.inl rfl, by decide +kernel, by decide, rfl⟩
theorem fp_X25_123_24 : jFP RX25 123 24 0 (.object "LitStrangers$Test") := ⟨RX24, TX24, 6, _, kcX24, by decide, Or.inl q1152, Or.inl rfl, by decide +kernel, by decide, rfl⟩
theorem fp_X25_115_22 : jFP RX25 115 22 1 .int := ⟨RX22, TX22, 5, _, kcX22, by decide, Or.inl q1154, Or.inl rfl, by decide +kernel, by decide, rfl⟩
theorem fp_X25_115_23 : jFP RX25 115 23 1 .int := ⟨RX23, TX23, 6, _, kcX23, by decide, Or.inl q1154, Or.inl rfl, by decide +kernel, by decide, rfl⟩
theorem fp_X25_115_24 : jFP RX25 115 24 1 .int := ⟨RX24, TX24, 6, _, kcX24, by decide, Or.inl q1154, Or.inl rfl, by decide +kernel, by decide, rfl⟩
theorem fl_X25_33 : jFL RX25 33 25 8 := ⟨RX25, TX25, 10, _, kcX25, by decide, Or.inl q1580, Or.inl rfl⟩
theorem ff_X25_33 : jFF RX25 33 25 8 8 (.array (.object "LitStrangers$Order")) := ⟨RX25, TX25, 10, _, kcX25, by decide, q1580, Or.inl rfl, by decide +kernel, by decide, rfl, rfl⟩
theorem fl_X25_3 : jFL RX25 3 25 9 := ⟨RX25, TX25, 10, _, kcX25, by decide, Or.inl q1581, Or.inl rfl⟩
theorem ff_X25_3 : jFF RX25 3 25 9 7 (.object "LitStrangers") := ⟨RX25, TX25, 10, _, kcX25, by decide, q1581, Or.inl rfl, by decide +kernel, by decide, rfl, rfl⟩
theorem ff_X26_7 : jFF RX26 7 26 0 0 .int := ⟨RX26, TX26, 2, _, kcX26, by decide, q1375, Or.inl rfl, by decide +kernel, by decide, rfl, rfl⟩
theorem ff_X26_13 : jFF RX26 13 26 1 1 (.object "LitStrangers$Books") := ⟨RX26, TX26, 2, _, kcX26, by decide, q1377, Or.inl rfl, by decide +kernel, by decide, rfl, rfl⟩
theorem fl_X27_7 : jFL RX27 7 27 0 := ⟨RX27, TX27, 1, _, kcX27, by decide, Or.inl q1698, Or.inl rfl⟩
theorem fp_X27_7 : jFP RX27 7 27 0 .long := ⟨RX27, TX27, 1, _, kcX27, by decide, Or.inl q1698, Or.inl rfl, by decide +kernel, fun j hj h => nmX27 j hj 0 (by decide) h, rfl⟩
theorem ff_X3_7 : jFF RX3 7 3 0 0 (.array .long) := ⟨RX3, TX3, 2, _, kcX3, by decide, q295, Or.inl rfl, by decide +kernel, by decide, rfl, rfl⟩
theorem fl_X3_13 : jFL RX3 13 3 1 := ⟨RX3, TX3, 2, _, kcX3, by decide, Or.inl q299, Or.inl rfl⟩
theorem fp_X3_13 : jFP RX3 13 3 1 .boolean := ⟨RX3, TX3, 2, _, kcX3, by decide, Or.inl q299, Or.inl rfl, by decide +kernel, fun j hj h => nmX3 j hj 1 (by decide) h, rfl⟩
theorem fl_X4_7 : jFL RX4 7 4 0 := ⟨RX4, TX4, 1, _, kcX4, by decide, Or.inl q320, Or.inl rfl⟩
theorem ff_X4_7 : jFF RX4 7 4 0 0 (.array (.object "LitStrangers$Clause")) := ⟨RX4, TX4, 1, _, kcX4, by decide, q320, Or.inl rfl, by decide +kernel, by decide, rfl, rfl⟩
theorem fl_X5_15 : jFL RX5 15 5 0 := ⟨RX5, TX5, 12, _, kcX5, by decide, Or.inl q338, Or.inl rfl⟩
theorem ff_X5_15 : jFF RX5 15 5 0 0 (.array .int) := ⟨RX5, TX5, 12, _, kcX5, by decide, q338, Or.inl rfl, by decide +kernel, by decide, rfl, rfl⟩
theorem fl_X5_19 : jFL RX5 19 5 1 := ⟨RX5, TX5, 12, _, kcX5, by decide, Or.inl q340, Or.inl rfl⟩
theorem ff_X5_19 : jFF RX5 19 5 1 1 (.array .int) := ⟨RX5, TX5, 12, _, kcX5, by decide, q340, Or.inl rfl, by decide +kernel, by decide, rfl, rfl⟩
theorem ff_X5_22 : jFF RX5 22 5 2 2 (.array .int) := ⟨RX5, TX5, 12, _, kcX5, by decide, q341, Or.inl rfl, by decide +kernel, by decide, rfl, rfl⟩
theorem fl_X5_27 : jFL RX5 27 5 3 := ⟨RX5, TX5, 12, _, kcX5, by decide, Or.inl q342, Or.inl rfl⟩
theorem ff_X5_27 : jFF RX5 27 5 3 3 (.array (.array .int)) := ⟨RX5, TX5, 12, _, kcX5, by decide, q342, Or.inl rfl, by decide +kernel, by decide, rfl, rfl⟩
theorem fl_X5_30 : jFL RX5 30 5 4 := ⟨RX5, TX5, 12, _, kcX5, by decide, Or.inl q343, Or.inl rfl⟩
theorem ff_X5_30 : jFF RX5 30 5 4 4 (.array (.array .int)) := ⟨RX5, TX5, 12, _, kcX5, by decide, q343, Or.inl rfl, by decide +kernel, by decide, rfl, rfl⟩
theorem fl_X5_33 : jFL RX5 33 5 5 := ⟨RX5, TX5, 12, _, kcX5, by decide, Or.inl q344, Or.inl rfl⟩
theorem ff_X5_33 : jFF RX5 33 5 5 5 (.array (.array .int)) := ⟨RX5, TX5, 12, _, kcX5, by decide, q344, Or.inl rfl, by decide +kernel, by decide, rfl, rfl⟩
theorem fl_X5_38 : jFL RX5 38 5 6 := ⟨RX5, TX5, 12, _, kcX5, by decide, Or.inl q345, Or.inl rfl⟩
theorem ff_X5_38 : jFF RX5 38 5 6 6 (.array (.array .long)) := ⟨RX5, TX5, 12, _, kcX5, by decide, q345, Or.inl rfl, by decide +kernel, by decide, rfl, rfl⟩
theorem fl_X5_43 : jFL RX5 43 5 7 := ⟨RX5, TX5, 12, _, kcX5, by decide, Or.inl q346, Or.inl rfl⟩
theorem ff_X5_43 : jFF RX5 43 5 7 7 (.array (.array .boolean)) := ⟨RX5, TX5, 12, _, kcX5, by decide, q346, Or.inl rfl, by decide +kernel, by decide, rfl, rfl⟩
theorem fl_X5_48 : jFL RX5 48 5 8 := ⟨RX5, TX5, 12, _, kcX5, by decide, Or.inl q347, Or.inl rfl⟩
theorem ff_X5_48 : jFF RX5 48 5 8 8 (.array (.array .byte)) := ⟨RX5, TX5, 12, _, kcX5, by decide, q347, Or.inl rfl, by decide +kernel, by decide, rfl, rfl⟩
theorem fl_X5_153 : jFL RX5 153 5 9 := ⟨RX5, TX5, 12, _, kcX5, by decide, Or.inl q348, Or.inl rfl⟩
theorem fl_X5_51 : jFL RX5 51 5 10 := ⟨RX5, TX5, 12, _, kcX5, by decide, Or.inl q350, Or.inl rfl⟩
theorem ff_X5_51 : jFF RX5 51 5 10 10 (.array (.array .int)) := ⟨RX5, TX5, 12, _, kcX5, by decide, q350, Or.inl rfl, by decide +kernel, by decide, rfl, rfl⟩
theorem fl_X5_3 : jFL RX5 3 5 11 := ⟨RX5, TX5, 12, _, kcX5, by decide, Or.inl q352, Or.inl rfl⟩
theorem ff_X5_3 : jFF RX5 3 5 11 11 (.object "LitStrangers") := ⟨RX5, TX5, 12, _, kcX5, by decide, q352, Or.inl rfl, by decide +kernel, by decide, rfl, rfl⟩
theorem fl_X6_3 : jFL RX6 3 6 0 := ⟨RX6, TX6, 52, _, kcX6, by decide, Or.inl q1751, Or.inl rfl⟩
theorem fp_X6_3 : jFP RX6 3 6 0 .int := ⟨RX6, TX6, 52, _, kcX6, by decide, Or.inl q1751, Or.inl rfl, by decide +kernel, fun j hj h => nmX6 j hj 0 (by decide) h, rfl⟩
theorem fl_X6_7 : jFL RX6 7 6 1 := ⟨RX6, TX6, 52, _, kcX6, by decide, Or.inl q1752, Or.inl rfl⟩
theorem ff_X6_7 : jFF RX6 7 6 1 1 (.array .int) := ⟨RX6, TX6, 52, _, kcX6, by decide, q1752, Or.inl rfl, by decide +kernel, by decide, rfl, rfl⟩
theorem fl_X6_24 : jFL RX6 24 6 2 := ⟨RX6, TX6, 52, _, kcX6, by decide, Or.inl q1753, Or.inl rfl⟩
theorem ff_X6_24 : jFF RX6 24 6 2 2 (.array .int) := ⟨RX6, TX6, 52, _, kcX6, by decide, q1753, Or.inl rfl, by decide +kernel, by decide, rfl, rfl⟩
theorem fl_X6_27 : jFL RX6 27 6 3 := ⟨RX6, TX6, 52, _, kcX6, by decide, Or.inl q1754, Or.inl rfl⟩
theorem ff_X6_27 : jFF RX6 27 6 3 3 (.array .int) := ⟨RX6, TX6, 52, _, kcX6, by decide, q1754, Or.inl rfl, by decide +kernel, by decide, rfl, rfl⟩
theorem fl_X6_30 : jFL RX6 30 6 4 := ⟨RX6, TX6, 52, _, kcX6, by decide, Or.inl q1755, Or.inl rfl⟩
theorem ff_X6_30 : jFF RX6 30 6 4 4 (.array .boolean) := ⟨RX6, TX6, 52, _, kcX6, by decide, q1755, Or.inl rfl, by decide +kernel, by decide, rfl, rfl⟩
theorem fl_X6_34 : jFL RX6 34 6 5 := ⟨RX6, TX6, 52, _, kcX6, by decide, Or.inl q1756, Or.inl rfl⟩
theorem ff_X6_34 : jFF RX6 34 6 5 5 (.array .int) := ⟨RX6, TX6, 52, _, kcX6, by decide, q1756, Or.inl rfl, by decide +kernel, by decide, rfl, rfl⟩
theorem fl_X6_144 : jFL RX6 144 6 6 := ⟨RX6, TX6, 52, _, kcX6, by decide, Or.inl q1757, Or.inl rfl⟩
theorem fp_X6_144 : jFP RX6 144 6 6 .int := ⟨RX6, TX6, 52, _, kcX6, by decide, Or.inl q1757, Or.inl rfl, by decide +kernel, fun j hj h => nmX6 j hj 6 (by decide) h, rfl⟩
theorem fl_X6_37 : jFL RX6 37 6 7 := ⟨RX6, TX6, 52, _, kcX6, by decide, Or.inl q1758, Or.inl rfl⟩
theorem ff_X6_37 : jFF RX6 37 6 7 7 (.array .byte) := ⟨RX6, TX6, 52, _, kcX6, by decide, q1758, Or.inl rfl, by decide +kernel, by decide, rfl, rfl⟩
theorem fl_X6_220 : jFL RX6 220 6 8 := ⟨RX6, TX6, 52, _, kcX6, by decide, Or.inl q1759, Or.inl rfl⟩
theorem fp_X6_220 : jFP RX6 220 6 8 .int := ⟨RX6, TX6, 52, _, kcX6, by decide, Or.inl q1759, Or.inl rfl, by decide +kernel, fun j hj h => nmX6 j hj 8 (by decide) h, rfl⟩
theorem fl_X6_223 : jFL RX6 223 6 9 := ⟨RX6, TX6, 52, _, kcX6, by decide, Or.inl q1760, Or.inl rfl⟩
theorem fp_X6_223 : jFP RX6 223 6 9 .int := ⟨RX6, TX6, 52, _, kcX6, by decide, Or.inl q1760, Or.inl rfl, by decide +kernel, fun j hj h => nmX6 j hj 9 (by decide) h, rfl⟩
theorem fl_X6_194 : jFL RX6 194 6 10 := ⟨RX6, TX6, 52, _, kcX6, by decide, Or.inl q1761, Or.inl rfl⟩
theorem fp_X6_194 : jFP RX6 194 6 10 .boolean := ⟨RX6, TX6, 52, _, kcX6, by decide, Or.inl q1761, Or.inl rfl, by decide +kernel, fun j hj h => nmX6 j hj 10 (by decide) h, rfl⟩
theorem fl_X6_41 : jFL RX6 41 6 11 := ⟨RX6, TX6, 52, _, kcX6, by decide, Or.inl q1762, Or.inl rfl⟩
theorem ff_X6_41 : jFF RX6 41 6 11 11 (.array .byte) := ⟨RX6, TX6, 52, _, kcX6, by decide, q1762, Or.inl rfl, by decide +kernel, by decide, rfl, rfl⟩
theorem fl_X6_44 : jFL RX6 44 6 12 := ⟨RX6, TX6, 52, _, kcX6, by decide, Or.inl q1763, Or.inl rfl⟩
theorem ff_X6_44 : jFF RX6 44 6 12 12 (.array .int) := ⟨RX6, TX6, 52, _, kcX6, by decide, q1763, Or.inl rfl, by decide +kernel, by decide, rfl, rfl⟩
theorem fl_X6_141 : jFL RX6 141 6 13 := ⟨RX6, TX6, 52, _, kcX6, by decide, Or.inl q1764, Or.inl rfl⟩
theorem fp_X6_141 : jFP RX6 141 6 13 .int := ⟨RX6, TX6, 52, _, kcX6, by decide, Or.inl q1764, Or.inl rfl, by decide +kernel, fun j hj h => nmX6 j hj 13 (by decide) h, rfl⟩
theorem fl_X6_47 : jFL RX6 47 6 14 := ⟨RX6, TX6, 52, _, kcX6, by decide, Or.inl q1765, Or.inl rfl⟩
theorem fp_X6_47 : jFP RX6 47 6 14 .int := ⟨RX6, TX6, 52, _, kcX6, by decide, Or.inl q1765, Or.inl rfl, by decide +kernel, fun j hj h => nmX6 j hj 14 (by decide) h, rfl⟩
theorem fl_X6_50 : jFL RX6 50 6 15 := ⟨RX6, TX6, 52, _, kcX6, by decide, Or.inl q1766, Or.inl rfl⟩
theorem ff_X6_50 : jFF RX6 50 6 15 15 (.array .int) := ⟨RX6, TX6, 52, _, kcX6, by decide, q1766, Or.inl rfl, by decide +kernel, by decide, rfl, rfl⟩
theorem fl_X6_53 : jFL RX6 53 6 16 := ⟨RX6, TX6, 52, _, kcX6, by decide, Or.inl q1767, Or.inl rfl⟩
theorem ff_X6_53 : jFF RX6 53 6 16 16 (.array .int) := ⟨RX6, TX6, 52, _, kcX6, by decide, q1767, Or.inl rfl, by decide +kernel, by decide, rfl, rfl⟩
theorem fl_X6_56 : jFL RX6 56 6 17 := ⟨RX6, TX6, 52, _, kcX6, by decide, Or.inl q1768, Or.inl rfl⟩
theorem ff_X6_56 : jFF RX6 56 6 17 17 (.array .int) := ⟨RX6, TX6, 52, _, kcX6, by decide, q1768, Or.inl rfl, by decide +kernel, by decide, rfl, rfl⟩
theorem fl_X6_147 : jFL RX6 147 6 18 := ⟨RX6, TX6, 52, _, kcX6, by decide, Or.inl q1769, Or.inl rfl⟩
theorem fp_X6_147 : jFP RX6 147 6 18 .int := ⟨RX6, TX6, 52, _, kcX6, by decide, Or.inl q1769, Or.inl rfl, by decide +kernel, fun j hj h => nmX6 j hj 18 (by decide) h, rfl⟩
theorem fl_X6_168 : jFL RX6 168 6 19 := ⟨RX6, TX6, 52, _, kcX6, by decide, Or.inl q1770, Or.inl rfl⟩
theorem fp_X6_168 : jFP RX6 168 6 19 .int := ⟨RX6, TX6, 52, _, kcX6, by decide, Or.inl q1770, Or.inl rfl, by decide +kernel, fun j hj h => nmX6 j hj 19 (by decide) h, rfl⟩
theorem fl_X6_177 : jFL RX6 177 6 20 := ⟨RX6, TX6, 52, _, kcX6, by decide, Or.inl q1771, Or.inl rfl⟩
theorem fp_X6_177 : jFP RX6 177 6 20 .int := ⟨RX6, TX6, 52, _, kcX6, by decide, Or.inl q1771, Or.inl rfl, by decide +kernel, fun j hj h => nmX6 j hj 20 (by decide) h, rfl⟩
theorem fl_X6_161 : jFL RX6 161 6 21 := ⟨RX6, TX6, 52, _, kcX6, by decide, Or.inl q1772, Or.inl rfl⟩
theorem fp_X6_161 : jFP RX6 161 6 21 .int := ⟨RX6, TX6, 52, _, kcX6, by decide, Or.inl q1772, Or.inl rfl, by decide +kernel, fun j hj h => nmX6 j hj 21 (by decide) h, rfl⟩
theorem fl_X6_248 : jFL RX6 248 6 22 := ⟨RX6, TX6, 52, _, kcX6, by decide, Or.inl q1773, Or.inl rfl⟩
theorem fp_X6_248 : jFP RX6 248 6 22 .int := ⟨RX6, TX6, 52, _, kcX6, by decide, Or.inl q1773, Or.inl rfl, by decide +kernel, fun j hj h => nmX6 j hj 22 (by decide) h, rfl⟩
theorem fl_X6_245 : jFL RX6 245 6 23 := ⟨RX6, TX6, 52, _, kcX6, by decide, Or.inl q1774, Or.inl rfl⟩
theorem fp_X6_245 : jFP RX6 245 6 23 .int := ⟨RX6, TX6, 52, _, kcX6, by decide, Or.inl q1774, Or.inl rfl, by decide +kernel, fun j hj h => nmX6 j hj 23 (by decide) h, rfl⟩
theorem fl_X6_258 : jFL RX6 258 6 24 := ⟨RX6, TX6, 52, _, kcX6, by decide, Or.inl q1775, Or.inl rfl⟩
theorem fp_X6_258 : jFP RX6 258 6 24 .boolean := ⟨RX6, TX6, 52, _, kcX6, by decide, Or.inl q1775, Or.inl rfl, by decide +kernel, fun j hj h => nmX6 j hj 24 (by decide) h, rfl⟩
theorem fl_X6_59 : jFL RX6 59 6 25 := ⟨RX6, TX6, 52, _, kcX6, by decide, Or.inl q1776, Or.inl rfl⟩
theorem ff_X6_59 : jFF RX6 59 6 25 25 (.array .int) := ⟨RX6, TX6, 52, _, kcX6, by decide, q1776, Or.inl rfl, by decide +kernel, by decide, rfl, rfl⟩
theorem fl_X6_62 : jFL RX6 62 6 26 := ⟨RX6, TX6, 52, _, kcX6, by decide, Or.inl q1777, Or.inl rfl⟩
theorem ff_X6_62 : jFF RX6 62 6 26 26 (.array .int) := ⟨RX6, TX6, 52, _, kcX6, by decide, q1777, Or.inl rfl, by decide +kernel, by decide, rfl, rfl⟩
theorem fl_X6_65 : jFL RX6 65 6 27 := ⟨RX6, TX6, 52, _, kcX6, by decide, Or.inl q1778, Or.inl rfl⟩
theorem ff_X6_65 : jFF RX6 65 6 27 27 (.array .int) := ⟨RX6, TX6, 52, _, kcX6, by decide, q1778, Or.inl rfl, by decide +kernel, by decide, rfl, rfl⟩
theorem fl_X6_11 : jFL RX6 11 6 28 := ⟨RX6, TX6, 52, _, kcX6, by decide, Or.inl q1779, Or.inl rfl⟩
theorem fp_X6_11 : jFP RX6 11 6 28 .int := ⟨RX6, TX6, 52, _, kcX6, by decide, Or.inl q1779, Or.inl rfl, by decide +kernel, fun j hj h => nmX6 j hj 28 (by decide) h, rfl⟩
theorem fl_X6_68 : jFL RX6 68 6 29 := ⟨RX6, TX6, 52, _, kcX6, by decide, Or.inl q1780, Or.inl rfl⟩
theorem ff_X6_68 : jFF RX6 68 6 29 29 (.array .int) := ⟨RX6, TX6, 52, _, kcX6, by decide, q1780, Or.inl rfl, by decide +kernel, by decide, rfl, rfl⟩
theorem fl_X6_71 : jFL RX6 71 6 30 := ⟨RX6, TX6, 52, _, kcX6, by decide, Or.inl q1781, Or.inl rfl⟩
theorem ff_X6_71 : jFF RX6 71 6 30 30 (.array .int) := ⟨RX6, TX6, 52, _, kcX6, by decide, q1781, Or.inl rfl, by decide +kernel, by decide, rfl, rfl⟩
theorem fl_X6_74 : jFL RX6 74 6 31 := ⟨RX6, TX6, 52, _, kcX6, by decide, Or.inl q1782, Or.inl rfl⟩
theorem ff_X6_74 : jFF RX6 74 6 31 31 (.array .byte) := ⟨RX6, TX6, 52, _, kcX6, by decide, q1782, Or.inl rfl, by decide +kernel, by decide, rfl, rfl⟩
theorem fl_X6_77 : jFL RX6 77 6 32 := ⟨RX6, TX6, 52, _, kcX6, by decide, Or.inl q1783, Or.inl rfl⟩
theorem ff_X6_77 : jFF RX6 77 6 32 32 (.array .int) := ⟨RX6, TX6, 52, _, kcX6, by decide, q1783, Or.inl rfl, by decide +kernel, by decide, rfl, rfl⟩
theorem fl_X6_80 : jFL RX6 80 6 33 := ⟨RX6, TX6, 52, _, kcX6, by decide, Or.inl q1784, Or.inl rfl⟩
theorem ff_X6_80 : jFF RX6 80 6 33 33 (.array .byte) := ⟨RX6, TX6, 52, _, kcX6, by decide, q1784, Or.inl rfl, by decide +kernel, by decide, rfl, rfl⟩
theorem fl_X6_355 : jFL RX6 355 6 34 := ⟨RX6, TX6, 52, _, kcX6, by decide, Or.inl q1785, Or.inl rfl⟩
theorem fp_X6_355 : jFP RX6 355 6 34 .int := ⟨RX6, TX6, 52, _, kcX6, by decide, Or.inl q1785, Or.inl rfl, by decide +kernel, fun j hj h => nmX6 j hj 34 (by decide) h, rfl⟩
theorem fl_X6_358 : jFL RX6 358 6 35 := ⟨RX6, TX6, 52, _, kcX6, by decide, Or.inl q1786, Or.inl rfl⟩
theorem fp_X6_358 : jFP RX6 358 6 35 .int := ⟨RX6, TX6, 52, _, kcX6, by decide, Or.inl q1786, Or.inl rfl, by decide +kernel, fun j hj h => nmX6 j hj 35 (by decide) h, rfl⟩
theorem fl_X6_83 : jFL RX6 83 6 36 := ⟨RX6, TX6, 52, _, kcX6, by decide, Or.inl q1787, Or.inl rfl⟩
theorem ff_X6_83 : jFF RX6 83 6 36 36 (.array .int) := ⟨RX6, TX6, 52, _, kcX6, by decide, q1787, Or.inl rfl, by decide +kernel, by decide, rfl, rfl⟩
theorem fl_X6_86 : jFL RX6 86 6 37 := ⟨RX6, TX6, 52, _, kcX6, by decide, Or.inl q1788, Or.inl rfl⟩
theorem ff_X6_86 : jFF RX6 86 6 37 37 (.array .long) := ⟨RX6, TX6, 52, _, kcX6, by decide, q1788, Or.inl rfl, by decide +kernel, by decide, rfl, rfl⟩
theorem fl_X6_90 : jFL RX6 90 6 38 := ⟨RX6, TX6, 52, _, kcX6, by decide, Or.inl q1789, Or.inl rfl⟩
theorem ff_X6_90 : jFF RX6 90 6 38 38 (.array .int) := ⟨RX6, TX6, 52, _, kcX6, by decide, q1789, Or.inl rfl, by decide +kernel, by decide, rfl, rfl⟩
theorem fl_X6_93 : jFL RX6 93 6 39 := ⟨RX6, TX6, 52, _, kcX6, by decide, Or.inl q1790, Or.inl rfl⟩
theorem ff_X6_93 : jFF RX6 93 6 39 39 (.array .boolean) := ⟨RX6, TX6, 52, _, kcX6, by decide, q1790, Or.inl rfl, by decide +kernel, by decide, rfl, rfl⟩
theorem fl_X6_97 : jFL RX6 97 6 40 := ⟨RX6, TX6, 52, _, kcX6, by decide, Or.inl q1791, Or.inl rfl⟩
theorem ff_X6_97 : jFF RX6 97 6 40 40 (.array .byte) := ⟨RX6, TX6, 52, _, kcX6, by decide, q1791, Or.inl rfl, by decide +kernel, by decide, rfl, rfl⟩
theorem fl_X6_100 : jFL RX6 100 6 41 := ⟨RX6, TX6, 52, _, kcX6, by decide, Or.inl q1792, Or.inl rfl⟩
theorem fp_X6_100 : jFP RX6 100 6 41 .int := ⟨RX6, TX6, 52, _, kcX6, by decide, Or.inl q1792, Or.inl rfl, by decide +kernel, fun j hj h => nmX6 j hj 41 (by decide) h, rfl⟩
theorem fl_X6_411 : jFL RX6 411 6 42 := ⟨RX6, TX6, 52, _, kcX6, by decide, Or.inl q1793, Or.inl rfl⟩
theorem fp_X6_411 : jFP RX6 411 6 42 .int := ⟨RX6, TX6, 52, _, kcX6, by decide, Or.inl q1793, Or.inl rfl, by decide +kernel, fun j hj h => nmX6 j hj 42 (by decide) h, rfl⟩
theorem fl_X6_414 : jFL RX6 414 6 43 := ⟨RX6, TX6, 52, _, kcX6, by decide, Or.inl q1794, Or.inl rfl⟩
theorem fp_X6_414 : jFP RX6 414 6 43 .int := ⟨RX6, TX6, 52, _, kcX6, by decide, Or.inl q1794, Or.inl rfl, by decide +kernel, fun j hj h => nmX6 j hj 43 (by decide) h, rfl⟩
theorem fl_X6_430 : jFL RX6 430 6 44 := ⟨RX6, TX6, 52, _, kcX6, by decide, Or.inl q1795, Or.inl rfl⟩
theorem fp_X6_430 : jFP RX6 430 6 44 .int := ⟨RX6, TX6, 52, _, kcX6, by decide, Or.inl q1795, Or.inl rfl, by decide +kernel, fun j hj h => nmX6 j hj 44 (by decide) h, rfl⟩
theorem fl_X6_420 : jFL RX6 420 6 45 := ⟨RX6, TX6, 52, _, kcX6, by decide, Or.inl q1796, Or.inl rfl⟩
theorem fp_X6_420 : jFP RX6 420 6 45 .int := ⟨RX6, TX6, 52, _, kcX6, by decide, Or.inl q1796, Or.inl rfl, by decide +kernel, fun j hj h => nmX6 j hj 45 (by decide) h, rfl⟩
theorem fl_X6_427 : jFL RX6 427 6 46 := ⟨RX6, TX6, 52, _, kcX6, by decide, Or.inl q1797, Or.inl rfl⟩
theorem fp_X6_427 : jFP RX6 427 6 46 .boolean := ⟨RX6, TX6, 52, _, kcX6, by decide, Or.inl q1797, Or.inl rfl, by decide +kernel, fun j hj h => nmX6 j hj 46 (by decide) h, rfl⟩
theorem fl_X6_433 : jFL RX6 433 6 47 := ⟨RX6, TX6, 52, _, kcX6, by decide, Or.inl q1798, Or.inl rfl⟩
theorem fp_X6_433 : jFP RX6 433 6 47 .boolean := ⟨RX6, TX6, 52, _, kcX6, by decide, Or.inl q1798, Or.inl rfl, by decide +kernel, fun j hj h => nmX6 j hj 47 (by decide) h, rfl⟩
theorem fl_X6_423 : jFL RX6 423 6 48 := ⟨RX6, TX6, 52, _, kcX6, by decide, Or.inl q1799, Or.inl rfl⟩
theorem fp_X6_423 : jFP RX6 423 6 48 .long := ⟨RX6, TX6, 52, _, kcX6, by decide, Or.inl q1799, Or.inl rfl, by decide +kernel, fun j hj h => nmX6 j hj 48 (by decide) h, rfl⟩
theorem fl_X6_103 : jFL RX6 103 6 49 := ⟨RX6, TX6, 52, _, kcX6, by decide, Or.inl q1800, Or.inl rfl⟩
theorem ff_X6_103 : jFF RX6 103 6 49 49 (.array .int) := ⟨RX6, TX6, 52, _, kcX6, by decide, q1800, Or.inl rfl, by decide +kernel, by decide, rfl, rfl⟩
theorem fl_X6_455 : jFL RX6 455 6 50 := ⟨RX6, TX6, 52, _, kcX6, by decide, Or.inl q1801, Or.inl rfl⟩
theorem fp_X6_455 : jFP RX6 455 6 50 .int := ⟨RX6, TX6, 52, _, kcX6, by decide, Or.inl q1801, Or.inl rfl, by decide +kernel, fun j hj h => nmX6 j hj 50 (by decide) h, rfl⟩
theorem fl_X6_448 : jFL RX6 448 6 51 := ⟨RX6, TX6, 52, _, kcX6, by decide, Or.inl q1802, Or.inl rfl⟩
theorem fp_X6_448 : jFP RX6 448 6 51 .int := ⟨RX6, TX6, 52, _, kcX6, by decide, Or.inl q1802, Or.inl rfl, by decide +kernel, fun j hj h => nmX6 j hj 51 (by decide) h, rfl⟩
theorem ff_X7_7 : jFF RX7 7 7 0 0 .int := ⟨RX7, TX7, 2, _, kcX7, by decide, q474, Or.inl rfl, by decide +kernel, by decide, rfl, rfl⟩
theorem ff_X7_13 : jFF RX7 13 7 1 1 .int := ⟨RX7, TX7, 2, _, kcX7, by decide, q476, Or.inl rfl, by decide +kernel, by decide, rfl, rfl⟩
theorem fl_X8_42_9 : jFL RX8 42 9 0 := ⟨RX9, TX9, 11, _, kcX9, by decide, Or.inl q755, Or.inl rfl⟩
theorem fp_X8_42_9 : jFP RX8 42 9 0 .int := ⟨RX9, TX9, 11, _, kcX9, by decide, Or.inl q755, Or.inl rfl, by decide +kernel, by decide, rfl⟩
theorem fl_X8_42_25 : jFL RX8 42 25 0 := ⟨RX25, TX25, 10, _, kcX25, by decide, Or.inl q755, Or.inl rfl⟩
theorem fp_X8_42_25 : jFP RX8 42 25 0 .int := ⟨RX25, TX25, 10, _, kcX25, by decide, Or.inl q755, Or.inl rfl, by decide +kernel, by decide, rfl⟩
theorem fl_X8_49_9 : jFL RX8 49 9 1 := ⟨RX9, TX9, 11, _, kcX9, by decide, Or.inl q760, Or.inl rfl⟩
theorem fp_X8_49_9 : jFP RX8 49 9 1 .int := ⟨RX9, TX9, 11, _, kcX9, by decide, Or.inl q760, Or.inl rfl, by decide +kernel, by decide, rfl⟩
theorem fl_X8_49_25 : jFL RX8 49 25 1 := ⟨RX25, TX25, 10, _, kcX25, by decide, Or.inl q760, Or.inl rfl⟩
theorem fp_X8_49_25 : jFP RX8 49 25 1 .int := ⟨RX25, TX25, 10, _, kcX25, by decide, Or.inl q760, Or.inl rfl, by decide +kernel, by decide, rfl⟩
theorem fl_X8_116_9 : jFL RX8 116 9 2 := ⟨RX9, TX9, 11, _, kcX9, by decide, Or.inl q761, Or.inl rfl⟩
theorem fp_X8_116_9 : jFP RX8 116 9 2 .int := ⟨RX9, TX9, 11, _, kcX9, by decide, Or.inl q761, Or.inl rfl, by decide +kernel, by decide, rfl⟩
theorem fl_X8_116_25 : jFL RX8 116 25 2 := ⟨RX25, TX25, 10, _, kcX25, by decide, Or.inl q761, Or.inl rfl⟩
theorem fp_X8_116_25 : jFP RX8 116 25 2 .int := ⟨RX25, TX25, 10, _, kcX25, by decide, Or.inl q761, Or.inl rfl, by decide +kernel, by decide, rfl⟩
theorem fl_X8_113_9 : jFL RX8 113 9 3 := ⟨RX9, TX9, 11, _, kcX9, by decide, Or.inl q762, Or.inl rfl⟩
theorem fp_X8_113_9 : jFP RX8 113 9 3 .int := ⟨RX9, TX9, 11, _, kcX9, by decide, Or.inl q762, Or.inl rfl, by decide +kernel, by decide, rfl⟩
theorem fl_X8_113_25 : jFL RX8 113 25 3 := ⟨RX25, TX25, 10, _, kcX25, by decide, Or.inl q762, Or.inl rfl⟩
theorem fp_X8_113_25 : jFP RX8 113 25 3 .int := ⟨RX25, TX25, 10, _, kcX25, by decide, Or.inl q762, Or.inl rfl, by decide +kernel, by decide, rfl⟩
theorem fl_X8_80_9 : jFL RX8 80 9 4 := ⟨RX9, TX9, 11, _, kcX9, by decide, Or.inl q763, Or.inl rfl⟩
theorem fp_X8_80_9 : jFP RX8 80 9 4 .int := ⟨RX9, TX9, 11, _, kcX9, by decide, Or.inl q763, Or.inl rfl, by decide +kernel, by decide, rfl⟩
theorem fl_X8_80_25 : jFL RX8 80 25 4 := ⟨RX25, TX25, 10, _, kcX25, by decide, Or.inl q763, Or.inl rfl⟩
theorem fp_X8_80_25 : jFP RX8 80 25 4 .int := ⟨RX25, TX25, 10, _, kcX25, by decide, Or.inl q763, Or.inl rfl, by decide +kernel, by decide, rfl⟩
theorem fl_X8_17_9 : jFL RX8 17 9 5 := ⟨RX9, TX9, 11, _, kcX9, by decide, Or.inl q764, Or.inl rfl⟩
theorem ff_X8_17_9 : jFF RX8 17 9 5 5 (.array (.object "LitStrangers$Test")) := ⟨RX9, TX9, 11, _, kcX9, by decide, q764, Or.inl rfl, by decide +kernel, by decide, rfl, rfl⟩
theorem fl_X8_17_25 : jFL RX8 17 25 5 := ⟨RX25, TX25, 10, _, kcX25, by decide, Or.inl q764, Or.inl rfl⟩
theorem ff_X8_17_25 : jFF RX8 17 25 5 5 (.array (.object "LitStrangers$Test")) := ⟨RX25, TX25, 10, _, kcX25, by decide, q764, Or.inl rfl, by decide +kernel, by decide, rfl, rfl⟩
theorem fl_X8_21_9 : jFL RX8 21 9 6 := ⟨RX9, TX9, 11, _, kcX9, by decide, Or.inl q765, Or.inl rfl⟩
theorem ff_X8_21_9 : jFF RX8 21 9 6 6 (.array (.object "java/lang/String")) := ⟨RX9, TX9, 11, _, kcX9, by decide, q765, Or.inl rfl, by decide +kernel, by decide, rfl, rfl⟩
theorem fl_X8_21_25 : jFL RX8 21 25 6 := ⟨RX25, TX25, 10, _, kcX25, by decide, Or.inl q765, Or.inl rfl⟩
theorem ff_X8_21_25 : jFF RX8 21 25 6 6 (.array (.object "java/lang/String")) := ⟨RX25, TX25, 10, _, kcX25, by decide, q765, Or.inl rfl, by decide +kernel, by decide, rfl, rfl⟩
theorem fl_X8_3_9 : jFL RX8 3 9 7 := ⟨RX9, TX9, 11, _, kcX9, by decide, Or.inl q766, Or.inl rfl⟩
theorem ff_X8_3_9 : jFF RX8 3 9 7 10 (.object "LitStrangers") := ⟨RX9, TX9, 11, _, kcX9, by decide, q766, Or.inl rfl, by decide +kernel, by decide, rfl, rfl⟩
theorem fl_X8_3_25 : jFL RX8 3 25 7 := ⟨RX25, TX25, 10, _, kcX25, by decide, Or.inl q766, Or.inl rfl⟩
theorem ff_X8_3_25 : jFF RX8 3 25 7 9 (.object "LitStrangers") := ⟨RX25, TX25, 10, _, kcX25, by decide, q766, Or.inl rfl, by decide +kernel, by decide, rfl, rfl⟩
theorem fl_X9_39 : jFL RX9 39 9 8 := ⟨RX9, TX9, 11, _, kcX9, by decide, Or.inl q752, Or.inl rfl⟩
theorem ff_X9_39 : jFF RX9 39 9 8 8 (.array (.object "LitStrangers$Clause")) := ⟨RX9, TX9, 11, _, kcX9, by decide, q752, Or.inl rfl, by decide +kernel, by decide, rfl, rfl⟩
theorem fl_X9_53 : jFL RX9 53 9 9 := ⟨RX9, TX9, 11, _, kcX9, by decide, Or.inl q753, Or.inl rfl⟩
theorem ff_X9_53 : jFF RX9 53 9 9 9 (.array (.object "java/lang/String")) := ⟨RX9, TX9, 11, _, kcX9, by decide, q753, Or.inl rfl, by decide +kernel, by decide, rfl, rfl⟩
theorem ff_X9_3 : jFF RX9 3 9 10 7 (.object "LitStrangers") := ⟨RX9, TX9, 11, _, kcX9, by decide, q754, Or.inl rfl, by decide +kernel, by decide, rfl, rfl⟩
theorem fl_X0_135 : jFL RX0 135 2 0 := ⟨RX2, TX2, 7, _, kcX2, by decide, Or.inr ⟨_, q214⟩, Or.inl rfl⟩
theorem fl_X0_140 : jFL RX0 140 2 1 := ⟨RX2, TX2, 7, _, kcX2, by decide, Or.inr ⟨_, q217⟩, Or.inl rfl⟩
theorem fl_X0_143 : jFL RX0 143 2 2 := ⟨RX2, TX2, 7, _, kcX2, by decide, Or.inr ⟨_, q220⟩, Or.inl rfl⟩
theorem fl_X0_178 : jFL RX0 178 2 3 := ⟨RX2, TX2, 7, _, kcX2, by decide, Or.inr ⟨_, q224⟩, Or.inl rfl⟩
theorem fp_X0_178 : jFP RX0 178 2 3 .int := ⟨RX2, TX2, 7, _, kcX2, by decide, Or.inr ⟨_, q224⟩, Or.inl rfl, by decide +kernel, fun j hj h => nmX2 j hj 3 (by decide) h, rfl⟩
theorem fl_X0_325 : jFL RX0 325 2 4 := ⟨RX2, TX2, 7, _, kcX2, by decide, Or.inr ⟨_, q227⟩, Or.inl rfl⟩
theorem fp_X0_325 : jFP RX0 325 2 4 .int := ⟨RX2, TX2, 7, _, kcX2, by decide, Or.inr ⟨_, q227⟩, Or.inl rfl, by decide +kernel, fun j hj h => nmX2 j hj 4 (by decide) h, rfl⟩
theorem fl_X0_334 : jFL RX0 334 2 5 := ⟨RX2, TX2, 7, _, kcX2, by decide, Or.inr ⟨_, q230⟩, Or.inl rfl⟩
theorem fp_X0_334 : jFP RX0 334 2 5 .int := ⟨RX2, TX2, 7, _, kcX2, by decide, Or.inr ⟨_, q230⟩, Or.inl rfl, by decide +kernel, fun j hj h => nmX2 j hj 5 (by decide) h, rfl⟩
theorem fl_X0_307 : jFL RX0 307 2 6 := ⟨RX2, TX2, 7, _, kcX2, by decide, Or.inr ⟨_, q233⟩, Or.inl rfl⟩
theorem fp_X0_307 : jFP RX0 307 2 6 .int := ⟨RX2, TX2, 7, _, kcX2, by decide, Or.inr ⟨_, q233⟩, Or.inl rfl, by decide +kernel, fun j hj h => nmX2 j hj 6 (by decide) h, rfl⟩
theorem fl_X0_215 : jFL RX0 215 1 0 := ⟨RX1, TX1, 8, _, kcX1, by decide, Or.inr ⟨_, q251⟩, Or.inl rfl⟩
theorem fl_X0_92 : jFL RX0 92 1 1 := ⟨RX1, TX1, 8, _, kcX1, by decide, Or.inr ⟨_, q253⟩, Or.inl rfl⟩
theorem fl_X0_88 : jFL RX0 88 1 2 := ⟨RX1, TX1, 8, _, kcX1, by decide, Or.inr ⟨_, q256⟩, Or.inl rfl⟩
theorem fl_X0_173 : jFL RX0 173 1 3 := ⟨RX1, TX1, 8, _, kcX1, by decide, Or.inr ⟨_, q259⟩, Or.inl rfl⟩
theorem fl_X0_106 : jFL RX0 106 1 4 := ⟨RX1, TX1, 8, _, kcX1, by decide, Or.inr ⟨_, q261⟩, Or.inl rfl⟩
theorem fl_X0_181 : jFL RX0 181 1 5 := ⟨RX1, TX1, 8, _, kcX1, by decide, Or.inr ⟨_, q263⟩, Or.inl rfl⟩
theorem fp_X0_181 : jFP RX0 181 1 5 .int := ⟨RX1, TX1, 8, _, kcX1, by decide, Or.inr ⟨_, q263⟩, Or.inl rfl, by decide +kernel, fun j hj h => nmX1 j hj 5 (by decide) h, rfl⟩
theorem fl_X0_184 : jFL RX0 184 1 6 := ⟨RX1, TX1, 8, _, kcX1, by decide, Or.inr ⟨_, q265⟩, Or.inl rfl⟩
theorem fp_X0_184 : jFP RX0 184 1 6 .int := ⟨RX1, TX1, 8, _, kcX1, by decide, Or.inr ⟨_, q265⟩, Or.inl rfl, by decide +kernel, fun j hj h => nmX1 j hj 6 (by decide) h, rfl⟩
theorem fl_X0_230 : jFL RX0 230 1 7 := ⟨RX1, TX1, 8, _, kcX1, by decide, Or.inr ⟨_, q267⟩, Or.inl rfl⟩
theorem fp_X0_230 : jFP RX0 230 1 7 .int := ⟨RX1, TX1, 8, _, kcX1, by decide, Or.inr ⟨_, q267⟩, Or.inl rfl, by decide +kernel, fun j hj h => nmX1 j hj 7 (by decide) h, rfl⟩
theorem fl_X0_233 : jFL RX0 233 3 0 := ⟨RX3, TX3, 2, _, kcX3, by decide, Or.inr ⟨_, q298⟩, Or.inl rfl⟩
theorem fl_X0_378 : jFL RX0 378 5 0 := ⟨RX5, TX5, 12, _, kcX5, by decide, Or.inr ⟨_, q339⟩, Or.inl rfl⟩
theorem fp_X0_358 : jFP RX0 358 5 9 .int := ⟨RX5, TX5, 12, _, kcX5, by decide, Or.inr ⟨_, q349⟩, Or.inl rfl, by decide +kernel, fun j hj h => nmX5 j hj 9 (by decide) h, rfl⟩
theorem fl_X0_384 : jFL RX0 384 5 10 := ⟨RX5, TX5, 12, _, kcX5, by decide, Or.inr ⟨_, q351⟩, Or.inl rfl⟩
theorem fl_X0_164 : jFL RX0 164 7 0 := ⟨RX7, TX7, 2, _, kcX7, by decide, Or.inr ⟨_, q475⟩, Or.inl rfl⟩
theorem fl_X0_167 : jFL RX0 167 7 1 := ⟨RX7, TX7, 2, _, kcX7, by decide, Or.inr ⟨_, q478⟩, Or.inl rfl⟩
theorem fl_X0_227 : jFL RX0 227 10 6 := ⟨RX10, TX10, 7, _, kcX10, by decide, Or.inr ⟨_, q837⟩, Or.inl rfl⟩
theorem fl_X0_344 : jFL RX0 344 26 0 := ⟨RX26, TX26, 2, _, kcX26, by decide, Or.inr ⟨_, q1376⟩, Or.inl rfl⟩
theorem fl_X0_343 : jFL RX0 343 26 1 := ⟨RX26, TX26, 2, _, kcX26, by decide, Or.inr ⟨_, q1378⟩, Or.inl rfl⟩
theorem fl_X13_13 : jFL RX13 13 3 0 := ⟨RX3, TX3, 2, _, kcX3, by decide, Or.inr ⟨_, q296⟩, Or.inl rfl⟩
theorem fl_X14_38 : jFL RX14 38 2 0 := ⟨RX2, TX2, 7, _, kcX2, by decide, Or.inr ⟨_, q213⟩, Or.inl rfl⟩
theorem fl_X15_24 : jFL RX15 24 3 1 := ⟨RX3, TX3, 2, _, kcX3, by decide, Or.inr ⟨_, q301⟩, Or.inl rfl⟩
theorem fp_X15_24 : jFP RX15 24 3 1 .boolean := ⟨RX3, TX3, 2, _, kcX3, by decide, Or.inr ⟨_, q301⟩, Or.inl rfl, by decide +kernel, fun j hj h => nmX3 j hj 1 (by decide) h, rfl⟩
theorem fl_X16_21 : jFL RX16 21 3 1 := ⟨RX3, TX3, 2, _, kcX3, by decide, Or.inr ⟨_, q300⟩, Or.inl rfl⟩
theorem fp_X16_21 : jFP RX16 21 3 1 .boolean := ⟨RX3, TX3, 2, _, kcX3, by decide, Or.inr ⟨_, q300⟩, Or.inl rfl, by decide +kernel, fun j hj h => nmX3 j hj 1 (by decide) h, rfl⟩
theorem fl_X18_26 : jFL RX18 26 3 1 := ⟨RX3, TX3, 2, _, kcX3, by decide, Or.inr ⟨_, q302⟩, Or.inl rfl⟩
theorem fl_X19_17 : jFL RX19 17 3 1 := ⟨RX3, TX3, 2, _, kcX3, by decide, Or.inr ⟨_, q303⟩, Or.inl rfl⟩
theorem fl_X20_21 : jFL RX20 21 3 1 := ⟨RX3, TX3, 2, _, kcX3, by decide, Or.inr ⟨_, q304⟩, Or.inl rfl⟩
theorem fl_X21_33 : jFL RX21 33 2 3 := ⟨RX2, TX2, 7, _, kcX2, by decide, Or.inr ⟨_, q223⟩, Or.inl rfl⟩
theorem fl_X21_38 : jFL RX21 38 2 4 := ⟨RX2, TX2, 7, _, kcX2, by decide, Or.inr ⟨_, q226⟩, Or.inl rfl⟩
theorem fl_X21_41 : jFL RX21 41 2 5 := ⟨RX2, TX2, 7, _, kcX2, by decide, Or.inr ⟨_, q229⟩, Or.inl rfl⟩
theorem fl_X21_47 : jFL RX21 47 2 6 := ⟨RX2, TX2, 7, _, kcX2, by decide, Or.inr ⟨_, q232⟩, Or.inl rfl⟩
theorem fl_X21_23 : jFL RX21 23 3 0 := ⟨RX3, TX3, 2, _, kcX3, by decide, Or.inr ⟨_, q297⟩, Or.inl rfl⟩
theorem fl_X21_50 : jFL RX21 50 3 1 := ⟨RX3, TX3, 2, _, kcX3, by decide, Or.inr ⟨_, q305⟩, Or.inl rfl⟩
theorem fp_X21_50 : jFP RX21 50 3 1 .boolean := ⟨RX3, TX3, 2, _, kcX3, by decide, Or.inr ⟨_, q305⟩, Or.inl rfl, by decide +kernel, fun j hj h => nmX3 j hj 1 (by decide) h, rfl⟩
theorem fl_X21_19 : jFL RX21 19 0 4 := ⟨RX0, TX0, 16, _, kcX0, by decide, Or.inr ⟨_, q384⟩, Or.inl rfl⟩
theorem fl_X21_44 : jFL RX21 44 0 14 := ⟨RX0, TX0, 16, _, kcX0, by decide, Or.inr ⟨_, q398⟩, Or.inl rfl⟩
theorem fp_X21_44 : jFP RX21 44 0 14 .int := ⟨RX0, TX0, 16, _, kcX0, by decide, Or.inr ⟨_, q398⟩, Or.inl rfl, by decide +kernel, fun j hj h => nmX0 j hj 14 (by decide) h, rfl⟩
theorem fl_X25_54 : jFL RX25 54 0 11 := ⟨RX0, TX0, 16, _, kcX0, by decide, Or.inr ⟨_, q392⟩, Or.inl rfl⟩
theorem fl_X4_13 : jFL RX4 13 16 0 := ⟨RX16, TX16, 4, _, kcX16, by decide, Or.inr ⟨_, q1115⟩, Or.inl rfl⟩
theorem fl_X4_23 : jFL RX4 23 16 3 := ⟨RX16, TX16, 4, _, kcX16, by decide, Or.inr ⟨_, q1119⟩, Or.inl rfl⟩
theorem fl_X5_62 : jFL RX5 62 2 0 := ⟨RX2, TX2, 7, _, kcX2, by decide, Or.inr ⟨_, q212⟩, Or.inl rfl⟩
theorem fl_X5_76 : jFL RX5 76 2 1 := ⟨RX2, TX2, 7, _, kcX2, by decide, Or.inr ⟨_, q216⟩, Or.inl rfl⟩
theorem fl_X5_115 : jFL RX5 115 2 2 := ⟨RX2, TX2, 7, _, kcX2, by decide, Or.inr ⟨_, q219⟩, Or.inl rfl⟩
theorem fl_X5_79 : jFL RX5 79 2 3 := ⟨RX2, TX2, 7, _, kcX2, by decide, Or.inr ⟨_, q222⟩, Or.inl rfl⟩
theorem fl_X5_164 : jFL RX5 164 1 1 := ⟨RX1, TX1, 8, _, kcX1, by decide, Or.inr ⟨_, q254⟩, Or.inl rfl⟩
theorem fl_X5_90 : jFL RX5 90 1 3 := ⟨RX1, TX1, 8, _, kcX1, by decide, Or.inr ⟨_, q258⟩, Or.inl rfl⟩
theorem fl_X5_86 : jFL RX5 86 0 0 := ⟨RX0, TX0, 16, _, kcX0, by decide, Or.inr ⟨_, q379⟩, Or.inl rfl⟩
theorem fl_X5_176 : jFL RX5 176 7 1 := ⟨RX7, TX7, 2, _, kcX7, by decide, Or.inr ⟨_, q477⟩, Or.inl rfl⟩
theorem fl_X8_52 : jFL RX8 52 0 11 := ⟨RX0, TX0, 16, _, kcX0, by decide, Or.inr ⟨_, q394⟩, Or.inl rfl⟩
theorem fl_X8_46 : jFL RX8 46 0 12 := ⟨RX0, TX0, 16, _, kcX0, by decide, Or.inr ⟨_, q395⟩, Or.inl rfl⟩
def jrm (d c s : Nat) : Room := { frames := d, cells := c, slots := s, locals := 40 * d }
abbrev fJ0_init : FS := (yJ0_init, cJ0_init, 1, none, jrm 2 0 0, [])
theorem ck_J0_init : CkI fJ0_init 0 := ⟨q188, q121, q189, (show jok yJ0_init 0 from ⟨by decide +kernel, by decide +kernel, by decide +kernel⟩), rfl, rfl⟩
abbrev fJ1_init : FS := (yJ1_init, cJ1_init, 1, none, jrm 3 0 0, [])
theorem ck_J1_init : CkI fJ1_init 0 := ⟨q185, q122, q186, (show jok yJ1_init 0 from ⟨by decide +kernel, by decide +kernel, by decide +kernel⟩), rfl, rfl⟩
abbrev fJ10_init : FS := (yJ10_init, cJ10_init, 2, none, jrm 4 0 0, [])
theorem ck_J10_init : CkI fJ10_init 1 := ⟨q644, q138, q645, (show jok yJ10_init 1 from ⟨by decide +kernel, by decide +kernel, by decide +kernel⟩), rfl, rfl⟩
abbrev fJ11_init : FS := (yJ11_init, cJ11_init, 2, none, jrm 5 0 0, [])
theorem ck_J11_init : CkI fJ11_init 1 := ⟨q641, q139, q642, (show jok yJ11_init 1 from ⟨by decide +kernel, by decide +kernel, by decide +kernel⟩), rfl, rfl⟩
abbrev fJ12_init : FS := (yJ12_init, cJ12_init, 2, none, jrm 6 0 0, [])
theorem ck_J12_init : CkI fJ12_init 1 := ⟨q638, q140, q639, (show jok yJ12_init 1 from ⟨by decide +kernel, by decide +kernel, by decide +kernel⟩), rfl, rfl⟩
abbrev fJ13_charAt : FS := (yJ13_charAt, cJ13_charAt, 2, (some (Jvm.ClassFile.FieldType.char)), jrm 5 0 0, [])
theorem ck_J13_charAt : CkV fJ13_charAt 1 := ⟨q871, q872, q141, q873, (show jok yJ13_charAt 1 from ⟨by decide +kernel, by decide +kernel, by decide +kernel⟩)⟩
abbrev fJ13_checkIndex : FS := (yJ13_checkIndex, cJ13_checkIndex, 2, none, jrm 2 0 0, [])
theorem ck_J13_checkIndex : CkS fJ13_checkIndex 2 := ⟨q882, q141, q883, (show jok yJ13_checkIndex 2 from ⟨by decide +kernel, by decide +kernel, by decide +kernel⟩)⟩
abbrev fJ13_coder : FS := (yJ13_coder, cJ13_coder, 1, (some (Jvm.ClassFile.FieldType.byte)), jrm 1 0 0, [])
theorem ck_J13_coder : CkV fJ13_coder 0 := ⟨q865, q866, q141, q867, (show jok yJ13_coder 0 from ⟨by decide +kernel, by decide +kernel, by decide +kernel⟩)⟩
abbrev fJ13_isLatin1 : FS := (yJ13_isLatin1, cJ13_isLatin1, 1, (some (Jvm.ClassFile.FieldType.boolean)), jrm 1 0 0, [])
theorem ck_J13_isLatin1 : CkV fJ13_isLatin1 0 := ⟨q875, q876, q141, q877, (show jok yJ13_isLatin1 0 from ⟨by decide +kernel, by decide +kernel, by decide +kernel⟩)⟩
abbrev fJ13_length : FS := (yJ13_length, cJ13_length, 1, (some (Jvm.ClassFile.FieldType.int)), jrm 2 0 0, [])
theorem ck_J13_length : CkV fJ13_length 0 := ⟨q861, q862, q141, q863, (show jok yJ13_length 0 from ⟨by decide +kernel, by decide +kernel, by decide +kernel⟩)⟩
abbrev fJ14_charAt : FS := (yJ14_charAt, cJ14_charAt, 2, (some (Jvm.ClassFile.FieldType.char)), jrm 3 0 0, [])
theorem ck_J14_charAt : CkS fJ14_charAt 2 := ⟨q879, q145, q880, (show jok yJ14_charAt 2 from ⟨by decide +kernel, by decide +kernel, by decide +kernel⟩)⟩
abbrev fJ15_charAt : FS := (yJ15_charAt, cJ15_charAt, 2, (some (Jvm.ClassFile.FieldType.char)), jrm 4 0 0, [])
theorem ck_J15_charAt : CkS fJ15_charAt 2 := ⟨q888, q146, q889, (show jok yJ15_charAt 2 from ⟨by decide +kernel, by decide +kernel, by decide +kernel⟩)⟩
abbrev fJ15_checkIndex : FS := (yJ15_checkIndex, cJ15_checkIndex, 2, none, jrm 3 0 0, [])
theorem ck_J15_checkIndex : CkS fJ15_checkIndex 2 := ⟨q891, q146, q892, (show jok yJ15_checkIndex 2 from ⟨by decide +kernel, by decide +kernel, by decide +kernel⟩)⟩
abbrev fJ15_getChar : FS := (yJ15_getChar, cJ15_getChar, 2, (some (Jvm.ClassFile.FieldType.char)), jrm 2 0 0, [])
theorem ck_J15_getChar : CkS fJ15_getChar 2 := ⟨q898, q146, q899, (show jok yJ15_getChar 2 from ⟨by decide +kernel, by decide +kernel, by decide +kernel⟩)⟩
abbrev fJ15_length : FS := (yJ15_length, cJ15_length, 1, (some (Jvm.ClassFile.FieldType.int)), jrm 1 0 0, [])
theorem ck_J15_length : CkS fJ15_length 1 := ⟨q894, q146, q895, (show jok yJ15_length 1 from ⟨by decide +kernel, by decide +kernel, by decide +kernel⟩)⟩
abbrev fJ16_bitCount : FS := (yJ16_bitCount, cJ16_bitCount, 1, (some (Jvm.ClassFile.FieldType.int)), jrm 1 0 0, [])
theorem ck_J16_bitCount : CkS fJ16_bitCount 1 := ⟨q1552, q163, q1553, (show jok yJ16_bitCount 1 from ⟨by decide +kernel, by decide +kernel, by decide +kernel⟩)⟩
abbrev fJ17_init : FS := (yJ17_init, cJ17_init, 1, none, jrm 1 0 0, [])
theorem ck_J17_init : CkI fJ17_init 0 := ⟨q171, q2410, q172, (show jok yJ17_init 0 from ⟨by decide +kernel, by decide +kernel, by decide +kernel⟩), rfl, rfl⟩
abbrev fJ2_add : FS := (yJ2_add, cJ2_add, 2, (some (Jvm.ClassFile.FieldType.boolean)), jrm 7 1 40, [])
theorem ck_J2_add : CkV fJ2_add 1 := ⟨q485, q486, q123, q487, (show jok yJ2_add 1 from ⟨by decide +kernel, by decide +kernel, by decide +kernel⟩)⟩
abbrev fJ2_addAll : FS := (yJ2_addAll, cJ2_addAll, 6, (some (Jvm.ClassFile.FieldType.boolean)), jrm 5 2 80, [])
theorem ck_J2_addAll : CkV fJ2_addAll 1 := ⟨q1679, q1680, q123, q1681, (show jok yJ2_addAll 1 from ⟨by decide +kernel, by decide +kernel, by decide +kernel⟩)⟩
abbrev fJ2_add_2 : FS := (yJ2_add_2, cJ2_add_2, 4, none, jrm 6 1 40, [])
theorem ck_J2_add_2 : CkV fJ2_add_2 3 := ⟨q490, qs3, q123, q491, (show jok yJ2_add_2 3 from ⟨by decide +kernel, by decide +kernel, by decide +kernel⟩)⟩
abbrev fJ2_clear : FS := (yJ2_clear, cJ2_clear, 4, none, jrm 1 0 0, [])
theorem ck_J2_clear : CkV fJ2_clear 0 := ⟨q566, q567, q123, q568, (show jok yJ2_clear 0 from ⟨by decide +kernel, by decide +kernel, by decide +kernel⟩)⟩
abbrev fJ2_elementData : FS := (yJ2_elementData, cJ2_elementData, 2, (some ((Jvm.ClassFile.FieldType.object "java/lang/Object"))), jrm 1 0 0, [])
theorem ck_J2_elementData : CkV fJ2_elementData 1 := ⟨q601, q602, q123, q603, (show jok yJ2_elementData 1 from ⟨by decide +kernel, by decide +kernel, by decide +kernel⟩)⟩
abbrev fJ2_fastRemove : FS := (yJ2_fastRemove, cJ2_fastRemove, 4, none, jrm 1 0 0, [])
theorem ck_J2_fastRemove : CkV fJ2_fastRemove 2 := ⟨q1359, qs29, q123, q1360, (show jok yJ2_fastRemove 2 from ⟨by decide +kernel, by decide +kernel, by decide +kernel⟩)⟩
abbrev fJ2_get : FS := (yJ2_get, cJ2_get, 2, (some ((Jvm.ClassFile.FieldType.object "java/lang/Object"))), jrm 3 0 0, [])
theorem ck_J2_get : CkV fJ2_get 1 := ⟨q591, q592, q123, q593, (show jok yJ2_get 1 from ⟨by decide +kernel, by decide +kernel, by decide +kernel⟩)⟩
abbrev fJ2_grow : FS := (yJ2_grow, cJ2_grow, 1, (some ((Jvm.ClassFile.FieldType.array (Jvm.ClassFile.FieldType.object "java/lang/Object")))), jrm 5 1 40, [])
theorem ck_J2_grow : CkV fJ2_grow 0 := ⟨q494, qs4, q123, q495, (show jok yJ2_grow 0 from ⟨by decide +kernel, by decide +kernel, by decide +kernel⟩)⟩
abbrev fJ2_grow_2 : FS := (yJ2_grow_2, cJ2_grow_2, 4, (some ((Jvm.ClassFile.FieldType.array (Jvm.ClassFile.FieldType.object "java/lang/Object")))), jrm 4 1 40, [])
theorem ck_J2_grow_2 : CkV fJ2_grow_2 1 := ⟨q498, qs5, q123, q499, (show jok yJ2_grow_2 1 from ⟨by decide +kernel, by decide +kernel, by decide +kernel⟩)⟩
abbrev fJ2_init : FS := (yJ2_init, cJ2_init, 1, none, jrm 4 0 0, [])
theorem ck_J2_init : CkI fJ2_init 0 := ⟨q182, q123, q183, (show jok yJ2_init 0 from ⟨by decide +kernel, by decide +kernel, by decide +kernel⟩), rfl, rfl⟩
abbrev fJ2_init_2 : FS := (yJ2_init_2, cJ2_init_2, 3, none, jrm 5 2 80, [])
theorem ck_J2_init_2 : CkI fJ2_init_2 1 := ⟨q1604, q123, q1605, (show jok yJ2_init_2 1 from ⟨by decide +kernel, by decide +kernel, by decide +kernel⟩), rfl, rfl⟩
abbrev fJ2_isEmpty : FS := (yJ2_isEmpty, cJ2_isEmpty, 1, (some (Jvm.ClassFile.FieldType.boolean)), jrm 1 0 0, [])
theorem ck_J2_isEmpty : CkV fJ2_isEmpty 0 := ⟨q1421, q1422, q123, q1423, (show jok yJ2_isEmpty 0 from ⟨by decide +kernel, by decide +kernel, by decide +kernel⟩)⟩
abbrev fJ2_remove : FS := (yJ2_remove, cJ2_remove, 4, (some ((Jvm.ClassFile.FieldType.object "java/lang/Object"))), jrm 3 0 0, [])
theorem ck_J2_remove : CkV fJ2_remove 1 := ⟨q1354, q1355, q123, q1356, (show jok yJ2_remove 1 from ⟨by decide +kernel, by decide +kernel, by decide +kernel⟩)⟩
abbrev fJ2_size : FS := (yJ2_size, cJ2_size, 1, (some (Jvm.ClassFile.FieldType.int)), jrm 1 0 0, [])
theorem ck_J2_size : CkV fJ2_size 0 := ⟨q465, q466, q123, q467, (show jok yJ2_size 0 from ⟨by decide +kernel, by decide +kernel, by decide +kernel⟩)⟩
abbrev fJ2_toArray : FS := (yJ2_toArray, cJ2_toArray, 1, (some ((Jvm.ClassFile.FieldType.array (Jvm.ClassFile.FieldType.object "java/lang/Object")))), jrm 4 1 40, [])
abbrev fJ3_hugeLength : FS := (yJ3_hugeLength, cJ3_hugeLength, 3, (some (Jvm.ClassFile.FieldType.int)), jrm 1 0 0, [])
theorem ck_J3_hugeLength : CkS fJ3_hugeLength 2 := ⟨q508, q130, q509, (show jok yJ3_hugeLength 2 from ⟨by decide +kernel, by decide +kernel, by decide +kernel⟩)⟩
abbrev fJ3_newLength : FS := (yJ3_newLength, cJ3_newLength, 4, (some (Jvm.ClassFile.FieldType.int)), jrm 2 0 0, [])
theorem ck_J3_newLength : CkS fJ3_newLength 3 := ⟨q501, q130, q502, (show jok yJ3_newLength 3 from ⟨by decide +kernel, by decide +kernel, by decide +kernel⟩)⟩
abbrev fJ4_max : FS := (yJ4_max, cJ4_max, 2, (some (Jvm.ClassFile.FieldType.int)), jrm 1 0 0, [])
theorem ck_J4_max : CkS fJ4_max 2 := ⟨q504, q131, q505, (show jok yJ4_max 2 from ⟨by decide +kernel, by decide +kernel, by decide +kernel⟩)⟩
abbrev fJ4_max_2 : FS := (yJ4_max_2, cJ4_max_2, 4, (some (Jvm.ClassFile.FieldType.long)), jrm 1 0 0, [])
theorem ck_J4_max_2 : CkS fJ4_max_2 2 := ⟨q1319, q131, q1320, (show jok yJ4_max_2 2 from ⟨by decide +kernel, by decide +kernel, by decide +kernel⟩)⟩
abbrev fJ4_min : FS := (yJ4_min, cJ4_min, 2, (some (Jvm.ClassFile.FieldType.int)), jrm 1 0 0, [])
theorem ck_J4_min : CkS fJ4_min 2 := ⟨q550, q131, q551, (show jok yJ4_min 2 from ⟨by decide +kernel, by decide +kernel, by decide +kernel⟩)⟩
abbrev fJ4_min_2 : FS := (yJ4_min_2, cJ4_min_2, 4, (some (Jvm.ClassFile.FieldType.long)), jrm 1 0 0, [])
theorem ck_J4_min_2 : CkS fJ4_min_2 2 := ⟨q1316, q131, q1317, (show jok yJ4_min_2 2 from ⟨by decide +kernel, by decide +kernel, by decide +kernel⟩)⟩
abbrev fJ5_copyOf : FS := (yJ5_copyOf, cJ5_copyOf, 2, (some ((Jvm.ClassFile.FieldType.array (Jvm.ClassFile.FieldType.object "java/lang/Object")))), jrm 3 1 40, [])
theorem ck_J5_copyOf : CkS fJ5_copyOf 2 := ⟨q511, q132, q512, (show jok yJ5_copyOf 2 from ⟨by decide +kernel, by decide +kernel, by decide +kernel⟩)⟩
abbrev fJ5_copyOf_2 : FS := (yJ5_copyOf_2, cJ5_copyOf_2, 4, (some ((Jvm.ClassFile.FieldType.array (Jvm.ClassFile.FieldType.object "java/lang/Object")))), jrm 2 1 40, [])
theorem ck_J5_copyOf_2 : CkS fJ5_copyOf_2 3 := ⟨q544, q132, q545, (show jok yJ5_copyOf_2 3 from ⟨by decide +kernel, by decide +kernel, by decide +kernel⟩)⟩
abbrev fJ5_fill : FS := (yJ5_fill, cJ5_fill, 4, none, jrm 1 0 0, [])
theorem ck_J5_fill : CkS fJ5_fill 2 := ⟨q1440, q132, q1441, (show jok yJ5_fill 2 from ⟨by decide +kernel, by decide +kernel, by decide +kernel⟩)⟩
abbrev fJ5_fill_2 : FS := (yJ5_fill_2, cJ5_fill_2, 5, none, jrm 1 0 0, [])
theorem ck_J5_fill_2 : CkS fJ5_fill_2 2 := ⟨q1444, q132, q1445, (show jok yJ5_fill_2 2 from ⟨by decide +kernel, by decide +kernel, by decide +kernel⟩)⟩
abbrev fJ5_fill_3 : FS := (yJ5_fill_3, cJ5_fill_3, 4, none, jrm 1 0 0, [])
theorem ck_J5_fill_3 : CkS fJ5_fill_3 2 := ⟨q1447, q132, q1448, (show jok yJ5_fill_3 2 from ⟨by decide +kernel, by decide +kernel, by decide +kernel⟩)⟩
abbrev fJ5_fill_4 : FS := (yJ5_fill_4, cJ5_fill_4, 4, none, jrm 1 0 0, [])
theorem ck_J5_fill_4 : CkS fJ5_fill_4 2 := ⟨q1450, q132, q1451, (show jok yJ5_fill_4 2 from ⟨by decide +kernel, by decide +kernel, by decide +kernel⟩)⟩
abbrev fJ6_checkIndex : FS := (yJ6_checkIndex, cJ6_checkIndex, 2, (some (Jvm.ClassFile.FieldType.int)), jrm 2 0 0, [])
theorem ck_J6_checkIndex : CkS fJ6_checkIndex 2 := ⟨q595, q134, q596, (show jok yJ6_checkIndex 2 from ⟨by decide +kernel, by decide +kernel, by decide +kernel⟩)⟩
abbrev fJ7_checkIndex : FS := (yJ7_checkIndex, cJ7_checkIndex, 3, (some (Jvm.ClassFile.FieldType.int)), jrm 1 0 0, [])
theorem ck_J7_checkIndex : CkS fJ7_checkIndex 3 := ⟨q598, q135, q599, (show jok yJ7_checkIndex 3 from ⟨by decide +kernel, by decide +kernel, by decide +kernel⟩)⟩
abbrev fJ8_init : FS := (yJ8_init, cJ8_init, 2, none, jrm 2 0 0, [])
theorem ck_J8_init : CkI fJ8_init 1 := ⟨q650, q136, q651, (show jok yJ8_init 1 from ⟨by decide +kernel, by decide +kernel, by decide +kernel⟩), rfl, rfl⟩
abbrev fJ8_init_2 : FS := (yJ8_init_2, cJ8_init_2, 1, none, jrm 2 0 0, [])
theorem ck_J8_init_2 : CkI fJ8_init_2 0 := ⟨q703, q136, q704, (show jok yJ8_init_2 0 from ⟨by decide +kernel, by decide +kernel, by decide +kernel⟩), rfl, rfl⟩
abbrev fJ8_init_3 : FS := (yJ8_init_3, cJ8_init_3, 5, none, jrm 2 0 0, [])
theorem ck_J8_init_3 : CkI fJ8_init_3 4 := ⟨q834, q136, q835, (show jok yJ8_init_3 4 from ⟨by decide +kernel, by decide +kernel, by decide +kernel⟩), rfl, rfl⟩
abbrev fJ9_init : FS := (yJ9_init, cJ9_init, 2, none, jrm 3 0 0, [])
theorem ck_J9_init : CkI fJ9_init 1 := ⟨q647, q137, q648, (show jok yJ9_init 1 from ⟨by decide +kernel, by decide +kernel, by decide +kernel⟩), rfl, rfl⟩
abbrev fJ9_init_2 : FS := (yJ9_init_2, cJ9_init_2, 5, none, jrm 3 0 0, [])
theorem ck_J9_init_2 : CkI fJ9_init_2 4 := ⟨q831, q137, q832, (show jok yJ9_init_2 4 from ⟨by decide +kernel, by decide +kernel, by decide +kernel⟩), rfl, rfl⟩
abbrev fX0_ask : FS := (yX0_ask, cX0_ask, 6, none, jrm 4 0 0, [])
theorem ck_X0_ask : CkV fX0_ask 5 := ⟨q1255, qs20, q119, q1256, (show jok yX0_ask 5 from ⟨by decide +kernel, by decide +kernel, by decide +kernel⟩)⟩
abbrev fX0_askNow : FS := (yX0_askNow, cX0_askNow, 2, none, jrm 6 0 0, [])
theorem ck_X0_askNow : CkV fX0_askNow 1 := ⟨q1243, qs17, q119, q1244, (show jok yX0_askNow 1 from ⟨by decide +kernel, by decide +kernel, by decide +kernel⟩)⟩
abbrev fX0_askOn : FS := (yX0_askOn, cX0_askOn, 5, none, jrm 5 0 0, [])
theorem ck_X0_askOn : CkV fX0_askOn 4 := ⟨q1251, qs19, q119, q1252, (show jok yX0_askOn 4 from ⟨by decide +kernel, by decide +kernel, by decide +kernel⟩)⟩
abbrev fX0_asks : FS := (yX0_asks, cX0_asks, 4, (some (Jvm.ClassFile.FieldType.int)), jrm 810 0 0, [])
theorem ck_X0_asks : CkV fX0_asks 3 := ⟨q1233, q1234, q119, q1235, (show jok yX0_asks 3 from ⟨by decide +kernel, by decide +kernel, by decide +kernel⟩)⟩
abbrev fX0_back : FS := (yX0_back, cX0_back, 2, (some (Jvm.ClassFile.FieldType.int)), jrm 7 13 321, [])
theorem ck_X0_back : CkV fX0_back 1 := ⟨q1727, q1728, q119, q1729, (show jok yX0_back 1 from ⟨by decide +kernel, by decide +kernel, by decide +kernel⟩)⟩
abbrev fX0_books : FS := (yX0_books, cX0_books, 1, (some ((Jvm.ClassFile.FieldType.object "LitStrangers$Books"))), jrm 1 0 0, [])
theorem ck_X0_books : CkV fX0_books 0 := ⟨q559, qs6, q119, q560, (show jok yX0_books 0 from ⟨by decide +kernel, by decide +kernel, by decide +kernel⟩)⟩
abbrev fX0_byteAt (c s : Nat) : FS := (yX0_byteAt, cX0_byteAt, 2, (some (Jvm.ClassFile.FieldType.int)), jrm 300 c s, [])
theorem ck_X0_byteAt : ∀ c s : Nat, CkS (fX0_byteAt c s) 2 := fun c s => ⟨q712, q119, q713, (show jok yX0_byteAt 2 from ⟨by decide +kernel, by decide +kernel, by decide +kernel⟩)⟩
abbrev fX0_cheap : FS := (yX0_cheap, cX0_cheap, 4, (some (Jvm.ClassFile.FieldType.int)), jrm 1211 0 0, [])
theorem ck_X0_cheap : CkV fX0_cheap 2 := ⟨q1491, q1492, q119, q1493, (show jok yX0_cheap 2 from ⟨by decide +kernel, by decide +kernel, by decide +kernel⟩)⟩
abbrev fX0_come : FS := (yX0_come, cX0_come, 5, (some (Jvm.ClassFile.FieldType.int)), jrm 8 2 42, [])
theorem ck_X0_come : CkV fX0_come 3 := ⟨q455, qs1, q119, q456, (show jok yX0_come 3 from ⟨by decide +kernel, by decide +kernel, by decide +kernel⟩)⟩
abbrev fX0_costs : FS := (yX0_costs, cX0_costs, 2, (some (Jvm.ClassFile.FieldType.int)), jrm 809 0 0, [])
theorem ck_X0_costs : CkV fX0_costs 1 := ⟨q1323, qs23, q119, q1324, (show jok yX0_costs 1 from ⟨by decide +kernel, by decide +kernel, by decide +kernel⟩)⟩
abbrev fX0_count : FS := (yX0_count, cX0_count, 2, (some (Jvm.ClassFile.FieldType.int)), jrm 4 0 0, [])
theorem ck_X0_count : CkV fX0_count 1 := ⟨q1731, q1732, q119, q1733, (show jok yX0_count 1 from ⟨by decide +kernel, by decide +kernel, by decide +kernel⟩)⟩
abbrev fX0_crews : FS := (yX0_crews, cX0_crews, 7, (some (Jvm.ClassFile.FieldType.int)), jrm 811 0 0, [])
theorem ck_X0_crews : CkV fX0_crews 1 := ⟨q1533, q1534, q119, q1535, (show jok yX0_crews 1 from ⟨by decide +kernel, by decide +kernel, by decide +kernel⟩)⟩
abbrev fX0_dark : FS := (yX0_dark, cX0_dark, 1, (some (Jvm.ClassFile.FieldType.int)), jrm 812 6 79, [])
theorem ck_X0_dark : CkV fX0_dark 0 := ⟨q1409, q1410, q119, q1411, (show jok yX0_dark 0 from ⟨by decide +kernel, by decide +kernel, by decide +kernel⟩)⟩
abbrev fX0_darkNow : FS := (yX0_darkNow, cX0_darkNow, 1, (some (Jvm.ClassFile.FieldType.int)), jrm 811 6 79, [])
theorem ck_X0_darkNow : CkV fX0_darkNow 0 := ⟨q1414, qs34, q119, q1415, (show jok yX0_darkNow 0 from ⟨by decide +kernel, by decide +kernel, by decide +kernel⟩)⟩
abbrev fX0_drawn : FS := (yX0_drawn, cX0_drawn, 2, (some (Jvm.ClassFile.FieldType.int)), jrm 2 0 0, [])
theorem ck_X0_drawn : CkV fX0_drawn 1 := ⟨q1710, q1711, q119, q1712, (show jok yX0_drawn 1 from ⟨by decide +kernel, by decide +kernel, by decide +kernel⟩)⟩
abbrev fX0_end : FS := (yX0_end, cX0_end, 2, (some (Jvm.ClassFile.FieldType.int)), jrm 2 0 0, [])
theorem ck_X0_end : CkV fX0_end 1 := ⟨q443, q444, q119, q445, (show jok yX0_end 1 from ⟨by decide +kernel, by decide +kernel, by decide +kernel⟩)⟩
abbrev fX0_fault : FS := (yX0_fault, cX0_fault, 1, (some (Jvm.ClassFile.FieldType.int)), jrm 1 0 0, [])
theorem ck_X0_fault : CkV fX0_fault 0 := ⟨q1225, q1226, q119, q1227, (show jok yX0_fault 0 from ⟨by decide +kernel, by decide +kernel, by decide +kernel⟩)⟩
abbrev fX0_feed : FS := (yX0_feed, cX0_feed, 6, (some (Jvm.ClassFile.FieldType.int)), jrm 2 0 0, [])
theorem ck_X0_feed : CkV fX0_feed 5 := ⟨q435, q436, q119, q437, (show jok yX0_feed 5 from ⟨by decide +kernel, by decide +kernel, by decide +kernel⟩)⟩
abbrev fX0_fog : FS := (yX0_fog, cX0_fog, 4, (some (Jvm.ClassFile.FieldType.int)), jrm 3 0 0, [])
theorem ck_X0_fog : CkV fX0_fog 2 := ⟨q613, q614, q119, q615, (show jok yX0_fog 2 from ⟨by decide +kernel, by decide +kernel, by decide +kernel⟩)⟩
abbrev fX0_force : FS := (yX0_force, cX0_force, 3, (some (Jvm.ClassFile.FieldType.int)), jrm 3 0 0, [])
theorem ck_X0_force : CkV fX0_force 1 := ⟨q1229, q1230, q119, q1231, (show jok yX0_force 1 from ⟨by decide +kernel, by decide +kernel, by decide +kernel⟩)⟩
abbrev fX0_four : FS := (yX0_four, cX0_four, 3, none, jrm 1 0 0, [])
theorem ck_X0_four : CkV fX0_four 1 := ⟨q440, qs0, q119, q441, (show jok yX0_four 1 from ⟨by decide +kernel, by decide +kernel, by decide +kernel⟩)⟩
abbrev fX0_harm : FS := (yX0_harm, cX0_harm, 4, (some (Jvm.ClassFile.FieldType.int)), jrm 810 0 0, [])
theorem ck_X0_harm : CkV fX0_harm 1 := ⟨q1544, q1545, q119, q1546, (show jok yX0_harm 1 from ⟨by decide +kernel, by decide +kernel, by decide +kernel⟩)⟩
abbrev fX0_has : FS := (yX0_has, cX0_has, 2, (some (Jvm.ClassFile.FieldType.boolean)), jrm 1 0 0, [])
theorem ck_X0_has : CkS fX0_has 2 := ⟨q1394, q119, q1395, (show jok yX0_has 2 from ⟨by decide +kernel, by decide +kernel, by decide +kernel⟩)⟩
abbrev fX0_hear : FS := (yX0_hear, cX0_hear, 4, (some (Jvm.ClassFile.FieldType.int)), jrm 4 0 0, [])
theorem ck_X0_hear : CkV fX0_hear 2 := ⟨q575, q576, q119, q577, (show jok yX0_hear 2 from ⟨by decide +kernel, by decide +kernel, by decide +kernel⟩)⟩
abbrev fX0_hush : FS := (yX0_hush, cX0_hush, 7, (some (Jvm.ClassFile.FieldType.int)), jrm 1210 0 0, [])
theorem ck_X0_hush : CkV fX0_hush 2 := ⟨q1548, q1549, q119, q1550, (show jok yX0_hush 2 from ⟨by decide +kernel, by decide +kernel, by decide +kernel⟩)⟩
abbrev fX0_image : FS := (yX0_image, cX0_image, 2, (some (Jvm.ClassFile.FieldType.int)), jrm 7 13 321, [])
theorem ck_X0_image : CkV fX0_image 1 := ⟨q1714, q1715, q119, q1716, (show jok yX0_image 1 from ⟨by decide +kernel, by decide +kernel, by decide +kernel⟩)⟩
abbrev fX0_in : FS := (yX0_in, cX0_in, 6, (some (Jvm.ClassFile.FieldType.boolean)), jrm 1 0 0, [])
theorem ck_X0_in : CkS fX0_in 3 := ⟨q447, q119, q448, (show jok yX0_in 3 from ⟨by decide +kernel, by decide +kernel, by decide +kernel⟩)⟩
abbrev fX0_init : FS := (yX0_init, cX0_init, 1, none, jrm 6 156 226756, [])
theorem ck_X0_init : CkI fX0_init 0 := ⟨q168, q119, q169, (show jok yX0_init 0 from ⟨by decide +kernel, by decide +kernel, by decide +kernel⟩), rfl, rfl⟩
abbrev fX0_isAnyComing : FS := (yX0_isAnyComing, cX0_isAnyComing, 2, (some (Jvm.ClassFile.FieldType.boolean)), jrm 3 0 0, [])
theorem ck_X0_isAnyComing : CkV fX0_isAnyComing 0 := ⟨q626, qs11, q119, q627, (show jok yX0_isAnyComing 0 from ⟨by decide +kernel, by decide +kernel, by decide +kernel⟩)⟩
abbrev fX0_isBarred : FS := (yX0_isBarred, cX0_isBarred, 5, (some (Jvm.ClassFile.FieldType.boolean)), jrm 808 0 0, [])
theorem ck_X0_isBarred : CkV fX0_isBarred 4 := ⟨q1331, qs25, q119, q1332, (show jok yX0_isBarred 4 from ⟨by decide +kernel, by decide +kernel, by decide +kernel⟩)⟩
abbrev fX0_isDigit : FS := (yX0_isDigit, cX0_isDigit, 1, (some (Jvm.ClassFile.FieldType.boolean)), jrm 1 0 0, [])
theorem ck_X0_isDigit : CkS fX0_isDigit 1 := ⟨q810, q119, q811, (show jok yX0_isDigit 1 from ⟨by decide +kernel, by decide +kernel, by decide +kernel⟩)⟩
abbrev fX0_isFog : FS := (yX0_isFog, cX0_isFog, 2, (some (Jvm.ClassFile.FieldType.boolean)), jrm 1 0 0, [])
theorem ck_X0_isFog : CkV fX0_isFog 1 := ⟨q1247, qs18, q119, q1248, (show jok yX0_isFog 1 from ⟨by decide +kernel, by decide +kernel, by decide +kernel⟩)⟩
abbrev fX0_isLetter : FS := (yX0_isLetter, cX0_isLetter, 1, (some (Jvm.ClassFile.FieldType.boolean)), jrm 1 0 0, [])
theorem ck_X0_isLetter : CkS fX0_isLetter 1 := ⟨q807, q119, q808, (show jok yX0_isLetter 1 from ⟨by decide +kernel, by decide +kernel, by decide +kernel⟩)⟩
abbrev fX0_isPerson : FS := (yX0_isPerson, cX0_isPerson, 2, (some (Jvm.ClassFile.FieldType.boolean)), jrm 3 0 0, [])
theorem ck_X0_isPerson : CkV fX0_isPerson 1 := ⟨q580, qs9, q119, q581, (show jok yX0_isPerson 1 from ⟨by decide +kernel, by decide +kernel, by decide +kernel⟩)⟩
abbrev fX0_last : FS := (yX0_last, cX0_last, 3, (some (Jvm.ClassFile.FieldType.int)), jrm 1211 0 0, [])
theorem ck_X0_last : CkV fX0_last 1 := ⟨q1425, q1426, q119, q1427, (show jok yX0_last 1 from ⟨by decide +kernel, by decide +kernel, by decide +kernel⟩)⟩
abbrev fX0_late : FS := (yX0_late, cX0_late, 2, (some (Jvm.ClassFile.FieldType.int)), jrm 1211 0 0, [])
theorem ck_X0_late : CkV fX0_late 1 := ⟨q1506, q1507, q119, q1508, (show jok yX0_late 1 from ⟨by decide +kernel, by decide +kernel, by decide +kernel⟩)⟩
abbrev fX0_law : FS := (yX0_law, cX0_law, 4, (some (Jvm.ClassFile.FieldType.int)), jrm 812 5008 26141, [(27, 71, 78, 225), (27, 71, 101, 0), (78, 94, 101, 0)])
theorem ck_X0_law : CkW fX0_law 0 := ⟨q719, q720, q119, q721, (show jok yX0_law 0 from ⟨by decide +kernel, by decide +kernel, by decide +kernel⟩)⟩
abbrev fX0_law1 : FS := (yX0_law1, cX0_law1, 1, (some ((Jvm.ClassFile.FieldType.object "LitStrangers$Text"))), jrm 4 0 0, [])
theorem ck_X0_law1 : CkV fX0_law1 0 := ⟨q1264, qs22, q119, q1265, (show jok yX0_law1 0 from ⟨by decide +kernel, by decide +kernel, by decide +kernel⟩)⟩
abbrev fX0_light : FS := (yX0_light, cX0_light, 2, (some (Jvm.ClassFile.FieldType.int)), jrm 812 6 79, [])
theorem ck_X0_light : CkV fX0_light 1 := ⟨q1385, q1386, q119, q1387, (show jok yX0_light 1 from ⟨by decide +kernel, by decide +kernel, by decide +kernel⟩)⟩
abbrev fX0_lightNow : FS := (yX0_lightNow, cX0_lightNow, 4, (some (Jvm.ClassFile.FieldType.int)), jrm 811 6 79, [])
theorem ck_X0_lightNow : CkV fX0_lightNow 1 := ⟨q1390, qs30, q119, q1391, (show jok yX0_lightNow 1 from ⟨by decide +kernel, by decide +kernel, by decide +kernel⟩)⟩
abbrev fX0_lodges : FS := (yX0_lodges, cX0_lodges, 2, (some (Jvm.ClassFile.FieldType.int)), jrm 809 0 0, [])
theorem ck_X0_lodges : CkV fX0_lodges 1 := ⟨q1327, qs24, q119, q1328, (show jok yX0_lodges 1 from ⟨by decide +kernel, by decide +kernel, by decide +kernel⟩)⟩
abbrev fX0_many : FS := (yX0_many, cX0_many, 1, (some (Jvm.ClassFile.FieldType.int)), jrm 2 0 0, [])
theorem ck_X0_many : CkV fX0_many 0 := ⟨q462, qs2, q119, q463, (show jok yX0_many 0 from ⟨by decide +kernel, by decide +kernel, by decide +kernel⟩)⟩
abbrev fX0_need : FS := (yX0_need, cX0_need, 2, (some (Jvm.ClassFile.FieldType.int)), jrm 1 0 0, [])
theorem ck_X0_need : CkV fX0_need 1 := ⟨q1398, qs31, q119, q1399, (show jok yX0_need 1 from ⟨by decide +kernel, by decide +kernel, by decide +kernel⟩)⟩
abbrev fX0_night : FS := (yX0_night, cX0_night, 2, none, jrm 810 0 0, [])
theorem ck_X0_night : CkV fX0_night 0 := ⟨q1406, qs33, q119, q1407, (show jok yX0_night 0 from ⟨by decide +kernel, by decide +kernel, by decide +kernel⟩)⟩
abbrev fX0_of : FS := (yX0_of, cX0_of, 3, (some (Jvm.ClassFile.FieldType.int)), jrm 4 0 0, [])
theorem ck_X0_of : CkV fX0_of 2 := ⟨q587, q588, q119, q589, (show jok yX0_of 2 from ⟨by decide +kernel, by decide +kernel, by decide +kernel⟩)⟩
abbrev fX0_orders : FS := (yX0_orders, cX0_orders, 5, (some (Jvm.ClassFile.FieldType.int)), jrm 815 6514 45491, [(5, 22, 30, 225), (5, 22, 53, 0), (30, 46, 53, 0), (53, 55, 53, 0)])
theorem ck_X0_orders : CkW fX0_orders 0 := ⟨q1562, q1563, q119, q1564, (show jok yX0_orders 0 from ⟨by decide +kernel, by decide +kernel, by decide +kernel⟩)⟩
abbrev fX0_person : FS := (yX0_person, cX0_person, 3, (some (Jvm.ClassFile.FieldType.int)), jrm 9 2 42, [])
theorem ck_X0_person : CkV fX0_person 2 := ⟨q450, q451, q119, q452, (show jok yX0_person 2 from ⟨by decide +kernel, by decide +kernel, by decide +kernel⟩)⟩
abbrev fX0_remember : FS := (yX0_remember, cX0_remember, 2, none, jrm 8 6 79, [])
theorem ck_X0_remember : CkV fX0_remember 1 := ⟨q1351, qs28, q119, q1352, (show jok yX0_remember 1 from ⟨by decide +kernel, by decide +kernel, by decide +kernel⟩)⟩
abbrev fX0_row : FS := (yX0_row, cX0_row, 8, (some (Jvm.ClassFile.FieldType.int)), jrm 301 320 6600, [(58, 67, 136, 213), (58, 67, 210, 0), (136, 141, 210, 0), (210, 212, 210, 0)])
theorem ck_X0_row : CkW fX0_row 0 := ⟨q633, q634, q119, q635, (show jok yX0_row 0 from ⟨by decide +kernel, by decide +kernel, by decide +kernel⟩)⟩
abbrev fX0_runAll : FS := (yX0_runAll, cX0_runAll, 4, (some (Jvm.ClassFile.FieldType.int)), jrm 814 1500 19200, [])
theorem ck_X0_runAll : CkV fX0_runAll 1 := ⟨q1629, qs41, q119, q1630, (show jok yX0_runAll 1 from ⟨by decide +kernel, by decide +kernel, by decide +kernel⟩)⟩
abbrev fX0_salt : FS := (yX0_salt, cX0_salt, 1, (some (Jvm.ClassFile.FieldType.int)), jrm 1 0 0, [])
theorem ck_X0_salt : CkV fX0_salt 0 := ⟨q715, q716, q119, q717, (show jok yX0_salt 0 from ⟨by decide +kernel, by decide +kernel, by decide +kernel⟩)⟩
abbrev fX0_send : FS := (yX0_send, cX0_send, 2, (some (Jvm.ClassFile.FieldType.int)), jrm 811 6 79, [])
theorem ck_X0_send : CkV fX0_send 1 := ⟨q1342, q1343, q119, q1344, (show jok yX0_send 1 from ⟨by decide +kernel, by decide +kernel, by decide +kernel⟩)⟩
abbrev fX0_sendNow : FS := (yX0_sendNow, cX0_sendNow, 4, (some (Jvm.ClassFile.FieldType.int)), jrm 810 6 79, [])
theorem ck_X0_sendNow : CkV fX0_sendNow 1 := ⟨q1347, qs27, q119, q1348, (show jok yX0_sendNow 1 from ⟨by decide +kernel, by decide +kernel, by decide +kernel⟩)⟩
abbrev fX0_settled : FS := (yX0_settled, cX0_settled, 2, (some (Jvm.ClassFile.FieldType.int)), jrm 3 0 0, [])
theorem ck_X0_settled : CkV fX0_settled 1 := ⟨q563, qs7, q119, q564, (show jok yX0_settled 1 from ⟨by decide +kernel, by decide +kernel, by decide +kernel⟩)⟩
abbrev fX0_share : FS := (yX0_share, cX0_share, 4, (some (Jvm.ClassFile.FieldType.int)), jrm 1210 0 0, [])
theorem ck_X0_share : CkV fX0_share 1 := ⟨q1540, q1541, q119, q1542, (show jok yX0_share 1 from ⟨by decide +kernel, by decide +kernel, by decide +kernel⟩)⟩
abbrev fX0_spoils : FS := (yX0_spoils, cX0_spoils, 3, (some (Jvm.ClassFile.FieldType.int)), jrm 809 0 0, [])
theorem ck_X0_spoils : CkV fX0_spoils 2 := ⟨q1339, qs26, q119, q1340, (show jok yX0_spoils 2 from ⟨by decide +kernel, by decide +kernel, by decide +kernel⟩)⟩
abbrev fX0_spread : FS := (yX0_spread, cX0_spread, 3, none, jrm 810 0 0, [])
theorem ck_X0_spread : CkV fX0_spread 1 := ⟨q1402, qs32, q119, q1403, (show jok yX0_spread 1 from ⟨by decide +kernel, by decide +kernel, by decide +kernel⟩)⟩
abbrev fX0_status : FS := (yX0_status, cX0_status, 1, (some (Jvm.ClassFile.FieldType.int)), jrm 1 0 0, [])
theorem ck_X0_status : CkV fX0_status 0 := ⟨q1741, q1742, q119, q1743, (show jok yX0_status 0 from ⟨by decide +kernel, by decide +kernel, by decide +kernel⟩)⟩
abbrev fX0_stopped : FS := (yX0_stopped, cX0_stopped, 1, (some (Jvm.ClassFile.FieldType.int)), jrm 1 0 0, [])
theorem ck_X0_stopped : CkV fX0_stopped 0 := ⟨q1683, q1684, q119, q1685, (show jok yX0_stopped 0 from ⟨by decide +kernel, by decide +kernel, by decide +kernel⟩)⟩
abbrev fX0_swaps : FS := (yX0_swaps, cX0_swaps, 3, (some (Jvm.ClassFile.FieldType.int)), jrm 1211 0 0, [])
theorem ck_X0_swaps : CkV fX0_swaps 1 := ⟨q1514, q1515, q119, q1516, (show jok yX0_swaps 1 from ⟨by decide +kernel, by decide +kernel, by decide +kernel⟩)⟩
abbrev fX0_takes : FS := (yX0_takes, cX0_takes, 2, (some (Jvm.ClassFile.FieldType.int)), jrm 809 0 0, [])
theorem ck_X0_takes : CkV fX0_takes 1 := ⟨q1239, qs16, q119, q1240, (show jok yX0_takes 1 from ⟨by decide +kernel, by decide +kernel, by decide +kernel⟩)⟩
abbrev fX0_talk : FS := (yX0_talk, cX0_talk, 5, (some (Jvm.ClassFile.FieldType.int)), jrm 4 0 0, [])
theorem ck_X0_talk : CkV fX0_talk 3 := ⟨q609, q610, q119, q611, (show jok yX0_talk 3 from ⟨by decide +kernel, by decide +kernel, by decide +kernel⟩)⟩
abbrev fX0_talks : FS := (yX0_talks, cX0_talks, 3, (some (Jvm.ClassFile.FieldType.int)), jrm 3 0 0, [])
theorem ck_X0_talks : CkV fX0_talks 0 := ⟨q1736, qs42, q119, q1737, (show jok yX0_talks 0 from ⟨by decide +kernel, by decide +kernel, by decide +kernel⟩)⟩
abbrev fX0_tell : FS := (yX0_tell, cX0_tell, 2, (some (Jvm.ClassFile.FieldType.int)), jrm 2 0 0, [])
theorem ck_X0_tell : CkV fX0_tell 1 := ⟨q571, qs8, q119, q572, (show jok yX0_tell 1 from ⟨by decide +kernel, by decide +kernel, by decide +kernel⟩)⟩
abbrev fX0_tells : FS := (yX0_tells, cX0_tells, 5, (some (Jvm.ClassFile.FieldType.int)), jrm 808 0 0, [])
theorem ck_X0_tells : CkV fX0_tells 3 := ⟨q1260, qs21, q119, q1261, (show jok yX0_tells 3 from ⟨by decide +kernel, by decide +kernel, by decide +kernel⟩)⟩
abbrev fX0_term : FS := (yX0_term, cX0_term, 2, (some (Jvm.ClassFile.FieldType.int)), jrm 2 0 0, [])
theorem ck_X0_term : CkV fX0_term 1 := ⟨q630, qs12, q119, q631, (show jok yX0_term 1 from ⟨by decide +kernel, by decide +kernel, by decide +kernel⟩)⟩
abbrev fX0_terms : FS := (yX0_terms, cX0_terms, 4, (some (Jvm.ClassFile.FieldType.int)), jrm 4 0 0, [])
theorem ck_X0_terms : CkV fX0_terms 2 := ⟨q618, q619, q119, q620, (show jok yX0_terms 2 from ⟨by decide +kernel, by decide +kernel, by decide +kernel⟩)⟩
abbrev fX0_undo : FS := (yX0_undo, cX0_undo, 2, (some (Jvm.ClassFile.FieldType.int)), jrm 4 0 0, [])
theorem ck_X0_undo : CkV fX0_undo 0 := ⟨q1417, q1418, q119, q1419, (show jok yX0_undo 0 from ⟨by decide +kernel, by decide +kernel, by decide +kernel⟩)⟩
abbrev fX0_was : FS := (yX0_was, cX0_was, 2, (some (Jvm.ClassFile.FieldType.int)), jrm 1 0 0, [])
theorem ck_X0_was : CkV fX0_was 1 := ⟨q584, qs10, q119, q585, (show jok yX0_was 1 from ⟨by decide +kernel, by decide +kernel, by decide +kernel⟩)⟩
abbrev fX0_ways : FS := (yX0_ways, cX0_ways, 2, (some (Jvm.ClassFile.FieldType.long)), jrm 1210 0 0, [])
theorem ck_X0_ways : CkV fX0_ways 1 := ⟨q1497, q1498, q119, q1499, (show jok yX0_ways 1 from ⟨by decide +kernel, by decide +kernel, by decide +kernel⟩)⟩
abbrev fX0_who : FS := (yX0_who, cX0_who, 4, (some (Jvm.ClassFile.FieldType.int)), jrm 1210 0 0, [])
theorem ck_X0_who : CkV fX0_who 1 := ⟨q1558, q1559, q119, q1560, (show jok yX0_who 1 from ⟨by decide +kernel, by decide +kernel, by decide +kernel⟩)⟩
abbrev fX0_winter : FS := (yX0_winter, cX0_winter, 10, (some (Jvm.ClassFile.FieldType.int)), jrm 811 2 61, [])
theorem ck_X0_winter : CkV fX0_winter 2 := ⟨q1687, q1688, q119, q1689, (show jok yX0_winter 2 from ⟨by decide +kernel, by decide +kernel, by decide +kernel⟩)⟩
abbrev fX1_copy : FS := (yX1_copy, cX1_copy, 2, (some ((Jvm.ClassFile.FieldType.object "LitStrangers$Coast"))), jrm 6 13 321, [])
theorem ck_X1_copy : CkV fX1_copy 0 := ⟨q1718, q1719, q120, q1720, (show jok yX1_copy 0 from ⟨by decide +kernel, by decide +kernel, by decide +kernel⟩)⟩
abbrev fX1_init : FS := (yX1_init, cX1_init, 1, none, jrm 5 8 153, [])
theorem ck_X1_init : CkI fX1_init 0 := ⟨q176, q120, q177, (show jok yX1_init 0 from ⟨by decide +kernel, by decide +kernel, by decide +kernel⟩), rfl, rfl⟩
abbrev fX10_init : FS := (yX10_init, cX10_init, 2, none, jrm 4 0 0, [])
theorem ck_X10_init : CkI fX10_init 1 := ⟨q828, q144, q829, (show jok yX10_init 1 from ⟨by decide +kernel, by decide +kernel, by decide +kernel⟩), rfl, rfl⟩
abbrev fX11_init : FS := (yX11_init, cX11_init, 1, none, jrm 2 0 0, [])
theorem ck_X11_init : CkI fX11_init 0 := ⟨q962, q147, q963, (show jok yX11_init 0 from ⟨by decide +kernel, by decide +kernel, by decide +kernel⟩), rfl, rfl⟩
abbrev fX12_init : FS := (yX12_init, cX12_init, 2, none, jrm 3 0 0, [])
theorem ck_X12_init : CkI fX12_init 1 := ⟨q959, q148, q960, (show jok yX12_init 1 from ⟨by decide +kernel, by decide +kernel, by decide +kernel⟩), rfl, rfl⟩
abbrev fX12_of : FS := (yX12_of, cX12_of, 2, (some (Jvm.ClassFile.FieldType.long)), jrm 1 0 0, [])
abbrev fX13_init : FS := (yX13_init, cX13_init, 2, none, jrm 3 0 0, [])
theorem ck_X13_init : CkI fX13_init 1 := ⟨q979, q149, q980, (show jok yX13_init 1 from ⟨by decide +kernel, by decide +kernel, by decide +kernel⟩), rfl, rfl⟩
abbrev fX13_of : FS := (yX13_of, cX13_of, 2, (some (Jvm.ClassFile.FieldType.long)), jrm 1 0 0, [])
abbrev fX14_init : FS := (yX14_init, cX14_init, 4, none, jrm 3 0 0, [])
theorem ck_X14_init : CkI fX14_init 3 := ⟨q993, q150, q994, (show jok yX14_init 3 from ⟨by decide +kernel, by decide +kernel, by decide +kernel⟩), rfl, rfl⟩
abbrev fX14_of : FS := (yX14_of, cX14_of, 2, (some (Jvm.ClassFile.FieldType.long)), jrm 4 0 0, [])
abbrev fX15_init : FS := (yX15_init, cX15_init, 4, none, jrm 3 0 0, [])
theorem ck_X15_init : CkI fX15_init 3 := ⟨q1015, q151, q1016, (show jok yX15_init 3 from ⟨by decide +kernel, by decide +kernel, by decide +kernel⟩), rfl, rfl⟩
abbrev fX15_of (d : Nat) : FS := (yX15_of, cX15_of, 6, (some (Jvm.ClassFile.FieldType.long)), jrm d 0 0, [])
abbrev fX16_holds : FS := (yX16_holds, cX16_holds, 2, (some (Jvm.ClassFile.FieldType.boolean)), jrm 806 0 0, [])
theorem ck_X16_holds : CkV fX16_holds 1 := ⟨q1271, q1272, q152, q1273, (show jok yX16_holds 1 from ⟨by decide +kernel, by decide +kernel, by decide +kernel⟩)⟩
abbrev fX16_init : FS := (yX16_init, cX16_init, 4, none, jrm 2 0 0, [])
theorem ck_X16_init : CkI fX16_init 3 := ⟨q1111, q152, q1112, (show jok yX16_init 3 from ⟨by decide +kernel, by decide +kernel, by decide +kernel⟩), rfl, rfl⟩
abbrev fX17_init : FS := (yX17_init, cX17_init, 1, none, jrm 2 0 0, [])
theorem ck_X17_init : CkI fX17_init 0 := ⟨q1063, q153, q1064, (show jok yX17_init 0 from ⟨by decide +kernel, by decide +kernel, by decide +kernel⟩), rfl, rfl⟩
abbrev fX18_init : FS := (yX18_init, cX18_init, 4, none, jrm 3 0 0, [])
theorem ck_X18_init : CkI fX18_init 3 := ⟨q1060, q154, q1061, (show jok yX18_init 3 from ⟨by decide +kernel, by decide +kernel, by decide +kernel⟩), rfl, rfl⟩
abbrev fX18_of : FS := (yX18_of, cX18_of, 6, (some (Jvm.ClassFile.FieldType.boolean)), jrm 405 0 0, [])
abbrev fX19_init : FS := (yX19_init, cX19_init, 2, none, jrm 3 0 0, [])
theorem ck_X19_init : CkI fX19_init 1 := ⟨q1079, q155, q1080, (show jok yX19_init 1 from ⟨by decide +kernel, by decide +kernel, by decide +kernel⟩), rfl, rfl⟩
abbrev fX19_of (d : Nat) : FS := (yX19_of, cX19_of, 2, (some (Jvm.ClassFile.FieldType.boolean)), jrm d 0 0, [])
abbrev fX2_as : FS := (yX2_as, cX2_as, 2, (some ((Jvm.ClassFile.FieldType.object "LitStrangers$Books"))), jrm 1 0 0, [])
theorem ck_X2_as : CkV fX2_as 1 := ⟨q1367, q1368, q124, q1369, (show jok yX2_as 1 from ⟨by decide +kernel, by decide +kernel, by decide +kernel⟩)⟩
abbrev fX2_init : FS := (yX2_init, cX2_init, 1, none, jrm 2 3 30, [])
theorem ck_X2_init : CkI fX2_init 0 := ⟨q208, q124, q209, (show jok yX2_init 0 from ⟨by decide +kernel, by decide +kernel, by decide +kernel⟩), rfl, rfl⟩
abbrev fX2_worth : FS := (yX2_worth, cX2_worth, 2, (some (Jvm.ClassFile.FieldType.int)), jrm 1 0 0, [])
theorem ck_X2_worth : CkV fX2_worth 1 := ⟨q605, q606, q124, q607, (show jok yX2_worth 1 from ⟨by decide +kernel, by decide +kernel, by decide +kernel⟩)⟩
abbrev fX20_init : FS := (yX20_init, cX20_init, 3, none, jrm 3 0 0, [])
theorem ck_X20_init : CkI fX20_init 2 := ⟨q1099, q156, q1100, (show jok yX20_init 2 from ⟨by decide +kernel, by decide +kernel, by decide +kernel⟩), rfl, rfl⟩
abbrev fX20_of (d : Nat) : FS := (yX20_of, cX20_of, 7, (some (Jvm.ClassFile.FieldType.boolean)), jrm d 0 0, [])
abbrev fX21_init : FS := (yX21_init, cX21_init, 2, none, jrm 2 0 0, [])
theorem ck_X21_init : CkI fX21_init 1 := ⟨q1147, q157, q1148, (show jok yX21_init 1 from ⟨by decide +kernel, by decide +kernel, by decide +kernel⟩), rfl, rfl⟩
abbrev fX21_isOff : FS := (yX21_isOff, cX21_isOff, 1, (some (Jvm.ClassFile.FieldType.boolean)), jrm 1 0 0, [])
abbrev fX21_of : FS := (yX21_of, cX21_of, 4, (some (Jvm.ClassFile.FieldType.int)), jrm 405 0 0, [])
abbrev fX21_run : FS := (yX21_run, cX21_run, 1, (some (Jvm.ClassFile.FieldType.int)), jrm 813 6 79, [])
abbrev fX21_setNow : FS := (yX21_setNow, cX21_setNow, 1, none, jrm 2 0 0, [])
abbrev fX22_does : FS := (yX22_does, cX22_does, 1, (some (Jvm.ClassFile.FieldType.int)), jrm 812 6 79, [])
abbrev fX22_init : FS := (yX22_init, cX22_init, 2, none, jrm 3 0 0, [])
theorem ck_X22_init : CkI fX22_init 1 := ⟨q1144, q158, q1145, (show jok yX22_init 1 from ⟨by decide +kernel, by decide +kernel, by decide +kernel⟩), rfl, rfl⟩
abbrev fX23_does : FS := (yX23_does, cX23_does, 2, (some (Jvm.ClassFile.FieldType.int)), jrm 811 6 79, [])
abbrev fX23_init : FS := (yX23_init, cX23_init, 3, none, jrm 3 0 0, [])
theorem ck_X23_init : CkI fX23_init 2 := ⟨q1176, q159, q1177, (show jok yX23_init 2 from ⟨by decide +kernel, by decide +kernel, by decide +kernel⟩), rfl, rfl⟩
abbrev fX24_does : FS := (yX24_does, cX24_does, 2, (some (Jvm.ClassFile.FieldType.int)), jrm 812 6 79, [])
abbrev fX24_init : FS := (yX24_init, cX24_init, 3, none, jrm 3 0 0, [])
theorem ck_X24_init : CkI fX24_init 2 := ⟨q1197, q160, q1198, (show jok yX24_init 2 from ⟨by decide +kernel, by decide +kernel, by decide +kernel⟩), rfl, rfl⟩
abbrev fX25_act (c s : Nat) : FS := (yX25_act, cX25_act, 1, (some ((Jvm.ClassFile.FieldType.object "LitStrangers$Order"))), jrm 409 c s, [])
theorem ck_X25_act : ∀ c s : Nat, CkV (fX25_act c s) 0 := fun c s => ⟨q1134, qs14, q161, q1136, (show jok yX25_act 0 from ⟨by decide +kernel, by decide +kernel, by decide +kernel⟩)⟩
abbrev fX25_behindWord : FS := (yX25_behindWord, cX25_behindWord, 2, (some ((Jvm.ClassFile.FieldType.object "LitStrangers$Sum"))), jrm 7 4 18, [])
abbrev fX25_init : FS := (yX25_init, cX25_init, 2, none, jrm 3 3 69, [])
theorem ck_X25_init : CkI fX25_init 1 := ⟨q1567, q161, q1568, (show jok yX25_init 1 from ⟨by decide +kernel, by decide +kernel, by decide +kernel⟩), rfl, rfl⟩
abbrev fX25_isNought : FS := (yX25_isNought, cX25_isNought, 3, (some (Jvm.ClassFile.FieldType.boolean)), jrm 1 0 0, [])
theorem ck_X25_isNought : CkV fX25_isNought 0 := ⟨q1214, qs15, q161, q1215, (show jok yX25_isNought 0 from ⟨by decide +kernel, by decide +kernel, by decide +kernel⟩)⟩
abbrev fX25_read (c s : Nat) : FS := (yX25_read, cX25_read, 3, none, jrm 809 c s, [])
abbrev fX25_read_2 : FS := (yX25_read_2, cX25_read_2, 2, (some ((Jvm.ClassFile.FieldType.array (Jvm.ClassFile.FieldType.object "LitStrangers$Order")))), jrm 811 5001 26012, [])
theorem ck_X25_read_2 : CkV fX25_read_2 0 := ⟨q1596, q1597, q161, q1598, (show jok yX25_read_2 0 from ⟨by decide +kernel, by decide +kernel, by decide +kernel⟩)⟩
abbrev fX26_init : FS := (yX26_init, cX26_init, 3, none, jrm 2 0 0, [])
theorem ck_X26_init : CkI fX26_init 2 := ⟨q1372, q162, q1373, (show jok yX26_init 2 from ⟨by decide +kernel, by decide +kernel, by decide +kernel⟩), rfl, rfl⟩
abbrev fX27_init : FS := (yX27_init, cX27_init, 2, none, jrm 2 0 0, [])
theorem ck_X27_init : CkI fX27_init 1 := ⟨q1695, q164, q1696, (show jok yX27_init 1 from ⟨by decide +kernel, by decide +kernel, by decide +kernel⟩), rfl, rfl⟩
abbrev fX27_of : FS := (yX27_of, cX27_of, 2, (some (Jvm.ClassFile.FieldType.int)), jrm 1 0 0, [])
theorem ck_X27_of : CkV fX27_of 1 := ⟨q1703, q1704, q164, q1705, (show jok yX27_of 1 from ⟨by decide +kernel, by decide +kernel, by decide +kernel⟩)⟩
abbrev fX3_init : FS := (yX3_init, cX3_init, 1, none, jrm 2 1 10, [])
theorem ck_X3_init : CkI fX3_init 0 := ⟨q292, q125, q293, (show jok yX3_init 0 from ⟨by decide +kernel, by decide +kernel, by decide +kernel⟩), rfl, rfl⟩
abbrev fX3_within : FS := (yX3_within, cX3_within, 3, (some (Jvm.ClassFile.FieldType.long)), jrm 1 0 0, [])
theorem ck_X3_within : CkV fX3_within 1 := ⟨q1299, q1300, q125, q1301, (show jok yX3_within 1 from ⟨by decide +kernel, by decide +kernel, by decide +kernel⟩)⟩
abbrev fX4_has : FS := (yX4_has, cX4_has, 4, (some (Jvm.ClassFile.FieldType.boolean)), jrm 807 0 0, [])
theorem ck_X4_has : CkV fX4_has 2 := ⟨q1334, q1335, q126, q1336, (show jok yX4_has 2 from ⟨by decide +kernel, by decide +kernel, by decide +kernel⟩)⟩
abbrev fX4_init : FS := (yX4_init, cX4_init, 2, none, jrm 2 0 0, [])
theorem ck_X4_init : CkI fX4_init 1 := ⟨q317, q126, q318, (show jok yX4_init 1 from ⟨by decide +kernel, by decide +kernel, by decide +kernel⟩), rfl, rfl⟩
abbrev fX4_tells : FS := (yX4_tells, cX4_tells, 8, (some (Jvm.ClassFile.FieldType.long)), jrm 807 0 0, [])
theorem ck_X4_tells : CkV fX4_tells 3 := ⟨q1267, q1268, q126, q1269, (show jok yX4_tells 3 from ⟨by decide +kernel, by decide +kernel, by decide +kernel⟩)⟩
abbrev fX5_crew : FS := (yX5_crew, cX5_crew, 7, (some (Jvm.ClassFile.FieldType.int)), jrm 1210 0 0, [])
theorem ck_X5_crew : CkV fX5_crew 2 := ⟨q1479, q1480, q127, q1481, (show jok yX5_crew 2 from ⟨by decide +kernel, by decide +kernel, by decide +kernel⟩)⟩
abbrev fX5_fare : FS := (yX5_fare, cX5_fare, 4, (some (Jvm.ClassFile.FieldType.int)), jrm 3 0 0, [])
theorem ck_X5_fare : CkV fX5_fare 1 := ⟨q1484, qs39, q127, q1485, (show jok yX5_fare 1 from ⟨by decide +kernel, by decide +kernel, by decide +kernel⟩)⟩
abbrev fX5_fogOn : FS := (yX5_fogOn, cX5_fogOn, 2, (some (Jvm.ClassFile.FieldType.boolean)), jrm 2 0 0, [])
theorem ck_X5_fogOn : CkV fX5_fogOn 1 := ⟨q1458, qs35, q127, q1459, (show jok yX5_fogOn 1 from ⟨by decide +kernel, by decide +kernel, by decide +kernel⟩)⟩
abbrev fX5_init : FS := (yX5_init, cX5_init, 2, none, jrm 2 136 226146, [])
theorem ck_X5_init : CkI fX5_init 1 := ⟨q327, q127, q328, (show jok yX5_init 1 from ⟨by decide +kernel, by decide +kernel, by decide +kernel⟩), rfl, rfl⟩
abbrev fX5_isCrew : FS := (yX5_isCrew, cX5_isCrew, 7, (some (Jvm.ClassFile.FieldType.boolean)), jrm 3 0 0, [])
theorem ck_X5_isCrew : CkV fX5_isCrew 3 := ⟨q1473, qs38, q127, q1474, (show jok yX5_isCrew 3 from ⟨by decide +kernel, by decide +kernel, by decide +kernel⟩)⟩
abbrev fX5_lands : FS := (yX5_lands, cX5_lands, 4, (some (Jvm.ClassFile.FieldType.int)), jrm 4 0 0, [])
theorem ck_X5_lands : CkV fX5_lands 1 := ⟨q1523, qs40, q127, q1524, (show jok yX5_lands 1 from ⟨by decide +kernel, by decide +kernel, by decide +kernel⟩)⟩
abbrev fX5_late : FS := (yX5_late, cX5_late, 8, (some (Jvm.ClassFile.FieldType.int)), jrm 1210 0 0, [])
theorem ck_X5_late : CkV fX5_late 1 := ⟨q1510, q1511, q127, q1512, (show jok yX5_late 1 from ⟨by decide +kernel, by decide +kernel, by decide +kernel⟩)⟩
abbrev fX5_lay : FS := (yX5_lay, cX5_lay, 6, (some ((Jvm.ClassFile.FieldType.object "LitStrangers$Nights"))), jrm 810 0 0, [])
theorem ck_X5_lay : CkV fX5_lay 2 := ⟨q1429, q1430, q127, q1431, (show jok yX5_lay 2 from ⟨by decide +kernel, by decide +kernel, by decide +kernel⟩)⟩
abbrev fX5_least (d : Nat) : FS := (yX5_least, cX5_least, 6, (some (Jvm.ClassFile.FieldType.int)), jrm d 0 0, [])
theorem ck_X5_least : ∀ d : Nat, CkV (fX5_least d) 2 := fun d => ⟨q1487, q1488, q127, q1489, (show jok yX5_least 2 from ⟨by decide +kernel, by decide +kernel, by decide +kernel⟩)⟩
abbrev fX5_most (d : Nat) : FS := (yX5_most, cX5_most, 6, (some (Jvm.ClassFile.FieldType.int)), jrm d 0 0, [])
theorem ck_X5_most : ∀ d : Nat, CkV (fX5_most d) 2 := fun d => ⟨q1453, q1454, q127, q1455, (show jok yX5_most 2 from ⟨by decide +kernel, by decide +kernel, by decide +kernel⟩)⟩
abbrev fX5_next : FS := (yX5_next, cX5_next, 6, (some (Jvm.ClassFile.FieldType.int)), jrm 4 0 0, [])
theorem ck_X5_next : CkV fX5_next 4 := ⟨q1469, qs37, q127, q1470, (show jok yX5_next 4 from ⟨by decide +kernel, by decide +kernel, by decide +kernel⟩)⟩
abbrev fX5_open : FS := (yX5_open, cX5_open, 9, (some (Jvm.ClassFile.FieldType.int)), jrm 809 0 0, [])
theorem ck_X5_open : CkV fX5_open 4 := ⟨q1463, qs36, q127, q1464, (show jok yX5_open 4 from ⟨by decide +kernel, by decide +kernel, by decide +kernel⟩)⟩
abbrev fX5_rows (d : Nat) : FS := (yX5_rows, cX5_rows, 7, (some (Jvm.ClassFile.FieldType.long)), jrm d 0 0, [])
theorem ck_X5_rows : ∀ d : Nat, CkV (fX5_rows d) 2 := fun d => ⟨q1501, q1502, q127, q1503, (show jok yX5_rows 2 from ⟨by decide +kernel, by decide +kernel, by decide +kernel⟩)⟩
abbrev fX5_turnOf : FS := (yX5_turnOf, cX5_turnOf, 8, (some (Jvm.ClassFile.FieldType.int)), jrm 1210 0 0, [])
theorem ck_X5_turnOf : CkV fX5_turnOf 1 := ⟨q1529, q1530, q127, q1531, (show jok yX5_turnOf 1 from ⟨by decide +kernel, by decide +kernel, by decide +kernel⟩)⟩
abbrev fX5_turns (d : Nat) : FS := (yX5_turns, cX5_turns, 8, (some (Jvm.ClassFile.FieldType.int)), jrm d 0 0, [])
theorem ck_X5_turns : ∀ d : Nat, CkV (fX5_turns d) 3 := fun d => ⟨q1518, q1519, q127, q1520, (show jok yX5_turns 3 from ⟨by decide +kernel, by decide +kernel, by decide +kernel⟩)⟩
abbrev fX6_adds : FS := (yX6_adds, cX6_adds, 5, none, jrm 2 0 0, [])
theorem ck_X6_adds : CkV fX6_adds 3 := ⟨q1944, qs47, q128, q1945, (show jok yX6_adds 3 from ⟨by decide +kernel, by decide +kernel, by decide +kernel⟩)⟩
abbrev fX6_asks : FS := (yX6_asks, cX6_asks, 4, (some (Jvm.ClassFile.FieldType.int)), jrm 805 0 0, [])
theorem ck_X6_asks : CkV fX6_asks 3 := ⟨q2101, q2102, q128, q2103, (show jok yX6_asks 3 from ⟨by decide +kernel, by decide +kernel, by decide +kernel⟩)⟩
abbrev fX6_back : FS := (yX6_back, cX6_back, 3, (some (Jvm.ClassFile.FieldType.int)), jrm 3 0 0, [])
theorem ck_X6_back : CkV fX6_back 1 := ⟨q1924, q1925, q128, q1926, (show jok yX6_back 1 from ⟨by decide +kernel, by decide +kernel, by decide +kernel⟩)⟩
abbrev fX6_bothOf (d : Nat) : FS := (yX6_bothOf, cX6_bothOf, 4, (some (Jvm.ClassFile.FieldType.boolean)), jrm d 0 0, [])
theorem ck_X6_bothOf : ∀ d : Nat, CkV (fX6_bothOf d) 1 := fun d => ⟨q2157, qs84, q128, q2158, (show jok yX6_bothOf 1 from ⟨by decide +kernel, by decide +kernel, by decide +kernel⟩)⟩
abbrev fX6_bounded : FS := (yX6_bounded, cX6_bounded, 4, (some (Jvm.ClassFile.FieldType.long)), jrm 1 0 0, [])
theorem ck_X6_bounded : CkV fX6_bounded 2 := ⟨q2147, qs82, q128, q2148, (show jok yX6_bounded 2 from ⟨by decide +kernel, by decide +kernel, by decide +kernel⟩)⟩
abbrev fX6_canBe : FS := (yX6_canBe, cX6_canBe, 2, (some (Jvm.ClassFile.FieldType.boolean)), jrm 2 0 0, [])
theorem ck_X6_canBe : CkS fX6_canBe 2 := ⟨q1936, q128, q1937, (show jok yX6_canBe 2 from ⟨by decide +kernel, by decide +kernel, by decide +kernel⟩)⟩
abbrev fX6_cheap : FS := (yX6_cheap, cX6_cheap, 8, (some (Jvm.ClassFile.FieldType.int)), jrm 1208 0 0, [])
theorem ck_X6_cheap : CkV fX6_cheap 2 := ⟨q2281, q2282, q128, q2283, (show jok yX6_cheap 2 from ⟨by decide +kernel, by decide +kernel, by decide +kernel⟩)⟩
abbrev fX6_cheapestFrom (d : Nat) : FS := (yX6_cheapestFrom, cX6_cheapestFrom, 7, (some (Jvm.ClassFile.FieldType.int)), jrm d 0 0, [])
theorem ck_X6_cheapestFrom : ∀ d : Nat, CkV (fX6_cheapestFrom d) 3 := fun d => ⟨q2286, qs108, q128, q2287, (show jok yX6_cheapestFrom 3 from ⟨by decide +kernel, by decide +kernel, by decide +kernel⟩)⟩
abbrev fX6_codeAt : FS := (yX6_codeAt, cX6_codeAt, 2, (some (Jvm.ClassFile.FieldType.int)), jrm 1 0 0, [])
theorem ck_X6_codeAt : CkV fX6_codeAt 1 := ⟨q2126, qs77, q128, q2127, (show jok yX6_codeAt 1 from ⟨by decide +kernel, by decide +kernel, by decide +kernel⟩)⟩
abbrev fX6_costsNow : FS := (yX6_costsNow, cX6_costsNow, 2, (some (Jvm.ClassFile.FieldType.int)), jrm 804 0 0, [])
theorem ck_X6_costsNow : CkV fX6_costsNow 1 := ⟨q2169, qs87, q128, q2170, (show jok yX6_costsNow 1 from ⟨by decide +kernel, by decide +kernel, by decide +kernel⟩)⟩
abbrev fX6_count : FS := (yX6_count, cX6_count, 5, (some (Jvm.ClassFile.FieldType.int)), jrm 2 0 0, [])
theorem ck_X6_count : CkV fX6_count 1 := ⟨q2383, q2384, q128, q2385, (show jok yX6_count 1 from ⟨by decide +kernel, by decide +kernel, by decide +kernel⟩)⟩
abbrev fX6_crewBehind : FS := (yX6_crewBehind, cX6_crewBehind, 5, (some (Jvm.ClassFile.FieldType.int)), jrm 3 0 0, [])
theorem ck_X6_crewBehind : CkV fX6_crewBehind 2 := ⟨q2274, qs106, q128, q2275, (show jok yX6_crewBehind 2 from ⟨by decide +kernel, by decide +kernel, by decide +kernel⟩)⟩
abbrev fX6_crewIn : FS := (yX6_crewIn, cX6_crewIn, 5, (some (Jvm.ClassFile.FieldType.int)), jrm 807 0 0, [])
theorem ck_X6_crewIn : CkV fX6_crewIn 3 := ⟨q2258, qs102, q128, q2259, (show jok yX6_crewIn 3 from ⟨by decide +kernel, by decide +kernel, by decide +kernel⟩)⟩
abbrev fX6_crews : FS := (yX6_crews, cX6_crews, 5, (some (Jvm.ClassFile.FieldType.int)), jrm 806 0 0, [])
theorem ck_X6_crews : CkV fX6_crews 1 := ⟨q2321, q2322, q128, q2323, (show jok yX6_crews 1 from ⟨by decide +kernel, by decide +kernel, by decide +kernel⟩)⟩
abbrev fX6_dark : FS := (yX6_dark, cX6_dark, 1, (some (Jvm.ClassFile.FieldType.int)), jrm 807 0 0, [])
theorem ck_X6_dark : CkV fX6_dark 0 := ⟨q2233, q2234, q128, q2235, (show jok yX6_dark 0 from ⟨by decide +kernel, by decide +kernel, by decide +kernel⟩)⟩
abbrev fX6_darkKept : FS := (yX6_darkKept, cX6_darkKept, 1, (some (Jvm.ClassFile.FieldType.int)), jrm 806 0 0, [])
theorem ck_X6_darkKept : CkV fX6_darkKept 0 := ⟨q2238, qs98, q128, q2239, (show jok yX6_darkKept 0 from ⟨by decide +kernel, by decide +kernel, by decide +kernel⟩)⟩
abbrev fX6_doTalk : FS := (yX6_doTalk, cX6_doTalk, 3, (some (Jvm.ClassFile.FieldType.boolean)), jrm 1 0 0, [])
theorem ck_X6_doTalk : CkV fX6_doTalk 2 := ⟨q2223, qs96, q128, q2224, (show jok yX6_doTalk 2 from ⟨by decide +kernel, by decide +kernel, by decide +kernel⟩)⟩
abbrev fX6_drawn : FS := (yX6_drawn, cX6_drawn, 2, (some (Jvm.ClassFile.FieldType.int)), jrm 2 0 0, [])
theorem ck_X6_drawn : CkV fX6_drawn 1 := ⟨q2379, q2380, q128, q2381, (show jok yX6_drawn 1 from ⟨by decide +kernel, by decide +kernel, by decide +kernel⟩)⟩
abbrev fX6_draws : FS := (yX6_draws, cX6_draws, 2, (some (Jvm.ClassFile.FieldType.int)), jrm 1 0 0, [])
theorem ck_X6_draws : CkV fX6_draws 1 := ⟨q2369, qs116, q128, q2370, (show jok yX6_draws 1 from ⟨by decide +kernel, by decide +kernel, by decide +kernel⟩)⟩
abbrev fX6_end : FS := (yX6_end, cX6_end, 2, (some (Jvm.ClassFile.FieldType.int)), jrm 2 0 0, [])
theorem ck_X6_end : CkV fX6_end 1 := ⟨q1995, q1996, q128, q1997, (show jok yX6_end 1 from ⟨by decide +kernel, by decide +kernel, by decide +kernel⟩)⟩
abbrev fX6_fault : FS := (yX6_fault, cX6_fault, 1, (some (Jvm.ClassFile.FieldType.int)), jrm 1 0 0, [])
theorem ck_X6_fault : CkV fX6_fault 0 := ⟨q2093, q2094, q128, q2095, (show jok yX6_fault 0 from ⟨by decide +kernel, by decide +kernel, by decide +kernel⟩)⟩
abbrev fX6_faults : FS := (yX6_faults, cX6_faults, 1, none, jrm 2 0 0, [])
theorem ck_X6_faults : CkV fX6_faults 0 := ⟨q2058, qs63, q128, q2059, (show jok yX6_faults 0 from ⟨by decide +kernel, by decide +kernel, by decide +kernel⟩)⟩
abbrev fX6_feed : FS := (yX6_feed, cX6_feed, 7, (some (Jvm.ClassFile.FieldType.int)), jrm 1 0 0, [])
theorem ck_X6_feed : CkV fX6_feed 5 := ⟨q1991, q1992, q128, q1993, (show jok yX6_feed 5 from ⟨by decide +kernel, by decide +kernel, by decide +kernel⟩)⟩
abbrev fX6_fine : FS := (yX6_fine, cX6_fine, 1, (some (Jvm.ClassFile.FieldType.boolean)), jrm 1 0 0, [])
theorem ck_X6_fine : CkV fX6_fine 0 := ⟨q2039, qs59, q128, q2040, (show jok yX6_fine 0 from ⟨by decide +kernel, by decide +kernel, by decide +kernel⟩)⟩
abbrev fX6_fog : FS := (yX6_fog, cX6_fog, 4, (some (Jvm.ClassFile.FieldType.int)), jrm 2 0 0, [])
theorem ck_X6_fog : CkV fX6_fog 2 := ⟨q1975, q1976, q128, q1977, (show jok yX6_fog 2 from ⟨by decide +kernel, by decide +kernel, by decide +kernel⟩)⟩
abbrev fX6_fogOn : FS := (yX6_fogOn, cX6_fogOn, 2, (some (Jvm.ClassFile.FieldType.int)), jrm 1 0 0, [])
theorem ck_X6_fogOn : CkV fX6_fogOn 1 := ⟨q2114, qs74, q128, q2115, (show jok yX6_fogOn 1 from ⟨by decide +kernel, by decide +kernel, by decide +kernel⟩)⟩
abbrev fX6_force : FS := (yX6_force, cX6_force, 3, (some (Jvm.ClassFile.FieldType.int)), jrm 2 0 0, [])
theorem ck_X6_force : CkV fX6_force 1 := ⟨q2097, q2098, q128, q2099, (show jok yX6_force 1 from ⟨by decide +kernel, by decide +kernel, by decide +kernel⟩)⟩
abbrev fX6_forgets : FS := (yX6_forgets, cX6_forgets, 2, none, jrm 1 0 0, [])
theorem ck_X6_forgets : CkV fX6_forgets 0 := ⟨q2250, qs100, q128, q2251, (show jok yX6_forgets 0 from ⟨by decide +kernel, by decide +kernel, by decide +kernel⟩)⟩
abbrev fX6_goesAlong : FS := (yX6_goesAlong, cX6_goesAlong, 3, none, jrm 803 0 0, [])
theorem ck_X6_goesAlong : CkV fX6_goesAlong 2 := ⟨q2357, qs115, q128, q2358, (show jok yX6_goesAlong 2 from ⟨by decide +kernel, by decide +kernel, by decide +kernel⟩)⟩
abbrev fX6_good : FS := (yX6_good, cX6_good, 2, (some (Jvm.ClassFile.FieldType.int)), jrm 1 0 0, [])
theorem ck_X6_good : CkV fX6_good 1 := ⟨q1921, qs44, q128, q1922, (show jok yX6_good 1 from ⟨by decide +kernel, by decide +kernel, by decide +kernel⟩)⟩
abbrev fX6_goodOr : FS := (yX6_goodOr, cX6_goodOr, 2, (some (Jvm.ClassFile.FieldType.int)), jrm 2 0 0, [])
theorem ck_X6_goodOr : CkV fX6_goodOr 1 := ⟨q2201, qs93, q128, q2202, (show jok yX6_goodOr 1 from ⟨by decide +kernel, by decide +kernel, by decide +kernel⟩)⟩
abbrev fX6_harm : FS := (yX6_harm, cX6_harm, 4, (some (Jvm.ClassFile.FieldType.int)), jrm 805 0 0, [])
theorem ck_X6_harm : CkV fX6_harm 1 := ⟨q2329, q2330, q128, q2331, (show jok yX6_harm 1 from ⟨by decide +kernel, by decide +kernel, by decide +kernel⟩)⟩
abbrev fX6_hear : FS := (yX6_hear, cX6_hear, 4, (some (Jvm.ClassFile.FieldType.int)), jrm 3 0 0, [])
theorem ck_X6_hear : CkV fX6_hear 2 := ⟨q1947, q1948, q128, q1949, (show jok yX6_hear 2 from ⟨by decide +kernel, by decide +kernel, by decide +kernel⟩)⟩
abbrev fX6_heardBy : FS := (yX6_heardBy, cX6_heardBy, 5, (some (Jvm.ClassFile.FieldType.int)), jrm 2 0 0, [])
theorem ck_X6_heardBy : CkV fX6_heardBy 2 := ⟨q2266, qs104, q128, q2267, (show jok yX6_heardBy 2 from ⟨by decide +kernel, by decide +kernel, by decide +kernel⟩)⟩
abbrev fX6_hush : FS := (yX6_hush, cX6_hush, 7, (some (Jvm.ClassFile.FieldType.int)), jrm 1208 0 0, [])
theorem ck_X6_hush : CkV fX6_hush 2 := ⟨q2333, q2334, q128, q2335, (show jok yX6_hush 2 from ⟨by decide +kernel, by decide +kernel, by decide +kernel⟩)⟩
abbrev fX6_image : FS := (yX6_image, cX6_image, 3, (some (Jvm.ClassFile.FieldType.int)), jrm 2 0 0, [])
theorem ck_X6_image : CkV fX6_image 1 := ⟨q1909, q1910, q128, q1911, (show jok yX6_image 1 from ⟨by decide +kernel, by decide +kernel, by decide +kernel⟩)⟩
abbrev fX6_init : FS := (yX6_init, cX6_init, 1, none, jrm 2 25 246332, [])
theorem ck_X6_init : CkI fX6_init 0 := ⟨q1747, q128, q1748, (show jok yX6_init 0 from ⟨by decide +kernel, by decide +kernel, by decide +kernel⟩), rfl, rfl⟩
abbrev fX6_isBarred : FS := (yX6_isBarred, cX6_isBarred, 5, (some (Jvm.ClassFile.FieldType.boolean)), jrm 804 0 0, [])
theorem ck_X6_isBarred : CkV fX6_isBarred 4 := ⟨q2177, qs89, q128, q2178, (show jok yX6_isBarred 4 from ⟨by decide +kernel, by decide +kernel, by decide +kernel⟩)⟩
abbrev fX6_isBarredOn : FS := (yX6_isBarredOn, cX6_isBarredOn, 6, (some (Jvm.ClassFile.FieldType.boolean)), jrm 805 0 0, [])
theorem ck_X6_isBarredOn : CkV fX6_isBarredOn 4 := ⟨q2270, qs105, q128, q2271, (show jok yX6_isBarredOn 4 from ⟨by decide +kernel, by decide +kernel, by decide +kernel⟩)⟩
abbrev fX6_isCrew : FS := (yX6_isCrew, cX6_isCrew, 6, (some (Jvm.ClassFile.FieldType.boolean)), jrm 2 0 0, [])
theorem ck_X6_isCrew : CkV fX6_isCrew 2 := ⟨q2278, qs107, q128, q2279, (show jok yX6_isCrew 2 from ⟨by decide +kernel, by decide +kernel, by decide +kernel⟩)⟩
abbrev fX6_isDigit : FS := (yX6_isDigit, cX6_isDigit, 1, (some (Jvm.ClassFile.FieldType.boolean)), jrm 1 0 0, [])
theorem ck_X6_isDigit : CkS fX6_isDigit 1 := ⟨q2018, q128, q2019, (show jok yX6_isDigit 1 from ⟨by decide +kernel, by decide +kernel, by decide +kernel⟩)⟩
abbrev fX6_isIn : FS := (yX6_isIn, cX6_isIn, 2, (some (Jvm.ClassFile.FieldType.boolean)), jrm 1 0 0, [])
theorem ck_X6_isIn : CkS fX6_isIn 2 := ⟨q2212, q128, q2213, (show jok yX6_isIn 2 from ⟨by decide +kernel, by decide +kernel, by decide +kernel⟩)⟩
abbrev fX6_isPerson : FS := (yX6_isPerson, cX6_isPerson, 2, (some (Jvm.ClassFile.FieldType.boolean)), jrm 2 0 0, [])
theorem ck_X6_isPerson : CkV fX6_isPerson 1 := ⟨q1952, qs48, q128, q1953, (show jok yX6_isPerson 1 from ⟨by decide +kernel, by decide +kernel, by decide +kernel⟩)⟩
abbrev fX6_isSmall : FS := (yX6_isSmall, cX6_isSmall, 1, (some (Jvm.ClassFile.FieldType.boolean)), jrm 1 0 0, [])
theorem ck_X6_isSmall : CkS fX6_isSmall 1 := ⟨q2015, q128, q2016, (show jok yX6_isSmall 1 from ⟨by decide +kernel, by decide +kernel, by decide +kernel⟩)⟩
abbrev fX6_keeps : FS := (yX6_keeps, cX6_keeps, 4, none, jrm 1 0 0, [])
theorem ck_X6_keeps : CkV fX6_keeps 1 := ⟨q2197, qs92, q128, q2198, (show jok yX6_keeps 1 from ⟨by decide +kernel, by decide +kernel, by decide +kernel⟩)⟩
abbrev fX6_landOf : FS := (yX6_landOf, cX6_landOf, 2, (some (Jvm.ClassFile.FieldType.int)), jrm 1 0 0, [])
theorem ck_X6_landOf : CkV fX6_landOf 1 := ⟨q1964, qs50, q128, q1965, (show jok yX6_landOf 1 from ⟨by decide +kernel, by decide +kernel, by decide +kernel⟩)⟩
abbrev fX6_landsOf : FS := (yX6_landsOf, cX6_landsOf, 4, (some (Jvm.ClassFile.FieldType.int)), jrm 2 0 0, [])
theorem ck_X6_landsOf : CkV fX6_landsOf 1 := ⟨q2318, qs113, q128, q2319, (show jok yX6_landsOf 1 from ⟨by decide +kernel, by decide +kernel, by decide +kernel⟩)⟩
abbrev fX6_last : FS := (yX6_last, cX6_last, 6, (some (Jvm.ClassFile.FieldType.int)), jrm 1208 0 0, [])
theorem ck_X6_last : CkV fX6_last 1 := ⟨q2241, q2242, q128, q2243, (show jok yX6_last 1 from ⟨by decide +kernel, by decide +kernel, by decide +kernel⟩)⟩
abbrev fX6_late : FS := (yX6_late, cX6_late, 7, (some (Jvm.ClassFile.FieldType.int)), jrm 1208 0 0, [])
theorem ck_X6_late : CkV fX6_late 1 := ⟨q2301, q2302, q128, q2303, (show jok yX6_late 1 from ⟨by decide +kernel, by decide +kernel, by decide +kernel⟩)⟩
abbrev fX6_law : FS := (yX6_law, cX6_law, 1, (some (Jvm.ClassFile.FieldType.int)), jrm 808 0 0, [])
theorem ck_X6_law : CkV fX6_law 0 := ⟨q1999, q2000, q128, q2001, (show jok yX6_law 0 from ⟨by decide +kernel, by decide +kernel, by decide +kernel⟩)⟩
abbrev fX6_lays : FS := (yX6_lays, cX6_lays, 3, none, jrm 1 0 0, [])
theorem ck_X6_lays : CkV fX6_lays 1 := ⟨q2090, qs71, q128, q2091, (show jok yX6_lays 1 from ⟨by decide +kernel, by decide +kernel, by decide +kernel⟩)⟩
abbrev fX6_laysWorths : FS := (yX6_laysWorths, cX6_laysWorths, 6, none, jrm 806 0 0, [])
theorem ck_X6_laysWorths : CkV fX6_laysWorths 3 := ⟨q2262, qs103, q128, q2263, (show jok yX6_laysWorths 3 from ⟨by decide +kernel, by decide +kernel, by decide +kernel⟩)⟩
abbrev fX6_laysWorthsOf : FS := (yX6_laysWorthsOf, cX6_laysWorthsOf, 6, none, jrm 805 0 0, [])
theorem ck_X6_laysWorthsOf : CkV fX6_laysWorthsOf 3 := ⟨q2376, qs117, q128, q2377, (show jok yX6_laysWorthsOf 3 from ⟨by decide +kernel, by decide +kernel, by decide +kernel⟩)⟩
abbrev fX6_leaf : FS := (yX6_leaf, cX6_leaf, 1, none, jrm 3 0 0, [])
theorem ck_X6_leaf : CkV fX6_leaf 0 := ⟨q2066, qs65, q128, q2067, (show jok yX6_leaf 0 from ⟨by decide +kernel, by decide +kernel, by decide +kernel⟩)⟩
abbrev fX6_lesser : FS := (yX6_lesser, cX6_lesser, 2, (some (Jvm.ClassFile.FieldType.int)), jrm 1 0 0, [])
theorem ck_X6_lesser : CkS fX6_lesser 2 := ⟨q2226, q128, q2227, (show jok yX6_lesser 2 from ⟨by decide +kernel, by decide +kernel, by decide +kernel⟩)⟩
abbrev fX6_lies : FS := (yX6_lies, cX6_lies, 3, (some (Jvm.ClassFile.FieldType.boolean)), jrm 1 0 0, [])
theorem ck_X6_lies : CkS fX6_lies 3 := ⟨q1913, q128, q1914, (show jok yX6_lies 3 from ⟨by decide +kernel, by decide +kernel, by decide +kernel⟩)⟩
abbrev fX6_light : FS := (yX6_light, cX6_light, 2, (some (Jvm.ClassFile.FieldType.int)), jrm 807 0 0, [])
theorem ck_X6_light : CkV fX6_light 1 := ⟨q2204, q2205, q128, q2206, (show jok yX6_light 1 from ⟨by decide +kernel, by decide +kernel, by decide +kernel⟩)⟩
abbrev fX6_lightsKept : FS := (yX6_lightsKept, cX6_lightsKept, 6, (some (Jvm.ClassFile.FieldType.int)), jrm 806 0 0, [])
theorem ck_X6_lightsKept : CkV fX6_lightsKept 1 := ⟨q2209, qs94, q128, q2210, (show jok yX6_lightsKept 1 from ⟨by decide +kernel, by decide +kernel, by decide +kernel⟩)⟩
abbrev fX6_lodgesNow : FS := (yX6_lodgesNow, cX6_lodgesNow, 2, (some (Jvm.ClassFile.FieldType.int)), jrm 804 0 0, [])
theorem ck_X6_lodgesNow : CkV fX6_lodgesNow 1 := ⟨q2173, qs88, q128, q2174, (show jok yX6_lodgesNow 1 from ⟨by decide +kernel, by decide +kernel, by decide +kernel⟩)⟩
abbrev fX6_longestFrom (d : Nat) : FS := (yX6_longestFrom, cX6_longestFrom, 7, (some (Jvm.ClassFile.FieldType.int)), jrm d 0 0, [])
theorem ck_X6_longestFrom : ∀ d : Nat, CkV (fX6_longestFrom d) 2 := fun d => ⟨q2254, qs101, q128, q2255, (show jok yX6_longestFrom 2 from ⟨by decide +kernel, by decide +kernel, by decide +kernel⟩)⟩
abbrev fX6_looks : FS := (yX6_looks, cX6_looks, 4, none, jrm 805 0 0, [])
theorem ck_X6_looks : CkV fX6_looks 0 := ⟨q2246, qs99, q128, q2247, (show jok yX6_looks 0 from ⟨by decide +kernel, by decide +kernel, by decide +kernel⟩)⟩
abbrev fX6_mayLight : FS := (yX6_mayLight, cX6_mayLight, 2, (some (Jvm.ClassFile.FieldType.boolean)), jrm 805 0 0, [])
theorem ck_X6_mayLight : CkV fX6_mayLight 1 := ⟨q2216, qs95, q128, q2217, (show jok yX6_mayLight 1 from ⟨by decide +kernel, by decide +kernel, by decide +kernel⟩)⟩
abbrev fX6_must : FS := (yX6_must, cX6_must, 2, none, jrm 3 0 0, [])
theorem ck_X6_must : CkV fX6_must 1 := ⟨q2062, qs64, q128, q2063, (show jok yX6_must 1 from ⟨by decide +kernel, by decide +kernel, by decide +kernel⟩)⟩
abbrev fX6_mustNumber : FS := (yX6_mustNumber, cX6_mustNumber, 3, none, jrm 3 0 0, [])
theorem ck_X6_mustNumber : CkV fX6_mustNumber 2 := ⟨q2070, qs66, q128, q2071, (show jok yX6_mustNumber 2 from ⟨by decide +kernel, by decide +kernel, by decide +kernel⟩)⟩
abbrev fX6_needOn : FS := (yX6_needOn, cX6_needOn, 1, (some (Jvm.ClassFile.FieldType.int)), jrm 1 0 0, [])
theorem ck_X6_needOn : CkS fX6_needOn 1 := ⟨q2219, q128, q2220, (show jok yX6_needOn 1 from ⟨by decide +kernel, by decide +kernel, by decide +kernel⟩)⟩
abbrev fX6_of : FS := (yX6_of, cX6_of, 3, (some (Jvm.ClassFile.FieldType.int)), jrm 3 0 0, [])
theorem ck_X6_of : CkV fX6_of 2 := ⟨q1955, q1956, q128, q1957, (show jok yX6_of 2 from ⟨by decide +kernel, by decide +kernel, by decide +kernel⟩)⟩
abbrev fX6_ones : FS := (yX6_ones, cX6_ones, 3, (some (Jvm.ClassFile.FieldType.int)), jrm 1 0 0, [])
theorem ck_X6_ones : CkS fX6_ones 1 := ⟨q2337, q128, q2338, (show jok yX6_ones 1 from ⟨by decide +kernel, by decide +kernel, by decide +kernel⟩)⟩
abbrev fX6_orders : FS := (yX6_orders, cX6_orders, 5, (some (Jvm.ClassFile.FieldType.int)), jrm 808 0 0, [])
theorem ck_X6_orders : CkV fX6_orders 0 := ⟨q2348, q2349, q128, q2350, (show jok yX6_orders 0 from ⟨by decide +kernel, by decide +kernel, by decide +kernel⟩)⟩
abbrev fX6_partOf (d : Nat) : FS := (yX6_partOf, cX6_partOf, 4, (some (Jvm.ClassFile.FieldType.long)), jrm d 0 0, [])
theorem ck_X6_partOf : ∀ d : Nat, CkV (fX6_partOf d) 1 := fun d => ⟨q2138, qs80, q128, q2139, (show jok yX6_partOf 1 from ⟨by decide +kernel, by decide +kernel, by decide +kernel⟩)⟩
abbrev fX6_passes0 : FS := (yX6_passes0, cX6_passes0, 3, (some (Jvm.ClassFile.FieldType.boolean)), jrm 2 0 0, [])
theorem ck_X6_passes0 : CkV fX6_passes0 1 := ⟨q2142, qs81, q128, q2143, (show jok yX6_passes0 1 from ⟨by decide +kernel, by decide +kernel, by decide +kernel⟩)⟩
abbrev fX6_passesNight : FS := (yX6_passesNight, cX6_passesNight, 2, none, jrm 805 0 0, [])
theorem ck_X6_passesNight : CkV fX6_passesNight 0 := ⟨q2230, qs97, q128, q2231, (show jok yX6_passesNight 0 from ⟨by decide +kernel, by decide +kernel, by decide +kernel⟩)⟩
abbrev fX6_people : FS := (yX6_people, cX6_people, 1, (some (Jvm.ClassFile.FieldType.int)), jrm 1 0 0, [])
theorem ck_X6_people : CkV fX6_people 0 := ⟨q1940, qs46, q128, q1941, (show jok yX6_people 0 from ⟨by decide +kernel, by decide +kernel, by decide +kernel⟩)⟩
abbrev fX6_person : FS := (yX6_person, cX6_person, 3, (some (Jvm.ClassFile.FieldType.int)), jrm 3 0 0, [])
theorem ck_X6_person : CkV fX6_person 2 := ⟨q1932, q1933, q128, q1934, (show jok yX6_person 2 from ⟨by decide +kernel, by decide +kernel, by decide +kernel⟩)⟩
abbrev fX6_plainOf (d : Nat) : FS := (yX6_plainOf, cX6_plainOf, 3, (some (Jvm.ClassFile.FieldType.boolean)), jrm d 0 0, [])
theorem ck_X6_plainOf : ∀ d : Nat, CkV (fX6_plainOf d) 1 := fun d => ⟨q2161, qs85, q128, q2162, (show jok yX6_plainOf 1 from ⟨by decide +kernel, by decide +kernel, by decide +kernel⟩)⟩
abbrev fX6_positiveOf (d : Nat) : FS := (yX6_positiveOf, cX6_positiveOf, 7, (some (Jvm.ClassFile.FieldType.boolean)), jrm d 0 0, [])
theorem ck_X6_positiveOf : ∀ d : Nat, CkV (fX6_positiveOf d) 1 := fun d => ⟨q2165, qs86, q128, q2166, (show jok yX6_positiveOf 1 from ⟨by decide +kernel, by decide +kernel, by decide +kernel⟩)⟩
abbrev fX6_priceOf : FS := (yX6_priceOf, cX6_priceOf, 4, (some (Jvm.ClassFile.FieldType.int)), jrm 2 0 0, [])
theorem ck_X6_priceOf : CkV fX6_priceOf 1 := ⟨q2290, qs109, q128, q2291, (show jok yX6_priceOf 1 from ⟨by decide +kernel, by decide +kernel, by decide +kernel⟩)⟩
abbrev fX6_readBoth (d : Nat) : FS := (yX6_readBoth, cX6_readBoth, 2, none, jrm d 0 0, [])
theorem ck_X6_readBoth : ∀ d : Nat, CkV (fX6_readBoth d) 1 := fun d => ⟨q2078, qs68, q128, q2079, (show jok yX6_readBoth 1 from ⟨by decide +kernel, by decide +kernel, by decide +kernel⟩)⟩
abbrev fX6_readClause : FS := (yX6_readClause, cX6_readClause, 1, none, jrm 804 0 0, [])
theorem ck_X6_readClause : CkV fX6_readClause 0 := ⟨q2086, qs70, q128, q2087, (show jok yX6_readClause 0 from ⟨by decide +kernel, by decide +kernel, by decide +kernel⟩)⟩
abbrev fX6_readOne : FS := (yX6_readOne, cX6_readOne, 1, none, jrm 805 0 0, [])
theorem ck_X6_readOne : CkV fX6_readOne 0 := ⟨q2027, qs56, q128, q2028, (show jok yX6_readOne 0 from ⟨by decide +kernel, by decide +kernel, by decide +kernel⟩)⟩
abbrev fX6_readOrder : FS := (yX6_readOrder, cX6_readOrder, 1, none, jrm 804 0 0, [])
theorem ck_X6_readOrder : CkV fX6_readOrder 0 := ⟨q2031, qs57, q128, q2032, (show jok yX6_readOrder 0 from ⟨by decide +kernel, by decide +kernel, by decide +kernel⟩)⟩
abbrev fX6_readPart (d : Nat) : FS := (yX6_readPart, cX6_readPart, 3, none, jrm d 0 0, [])
theorem ck_X6_readPart : ∀ d : Nat, CkV (fX6_readPart d) 1 := fun d => ⟨q2051, qs62, q128, q2052, (show jok yX6_readPart 1 from ⟨by decide +kernel, by decide +kernel, by decide +kernel⟩)⟩
abbrev fX6_readPlain (d : Nat) : FS := (yX6_readPlain, cX6_readPlain, 4, none, jrm d 0 0, [])
theorem ck_X6_readPlain : ∀ d : Nat, CkV (fX6_readPlain d) 1 := fun d => ⟨q2082, qs69, q128, q2083, (show jok yX6_readPlain 1 from ⟨by decide +kernel, by decide +kernel, by decide +kernel⟩)⟩
abbrev fX6_readSum (d : Nat) : FS := (yX6_readSum, cX6_readSum, 2, none, jrm d 0 0, [])
theorem ck_X6_readSum : ∀ d : Nat, CkV (fX6_readSum d) 1 := fun d => ⟨q2043, qs60, q128, q2044, (show jok yX6_readSum 1 from ⟨by decide +kernel, by decide +kernel, by decide +kernel⟩)⟩
abbrev fX6_readTerm (d : Nat) : FS := (yX6_readTerm, cX6_readTerm, 2, none, jrm d 0 0, [])
theorem ck_X6_readTerm : ∀ d : Nat, CkV (fX6_readTerm d) 1 := fun d => ⟨q2047, qs61, q128, q2048, (show jok yX6_readTerm 1 from ⟨by decide +kernel, by decide +kernel, by decide +kernel⟩)⟩
abbrev fX6_readTest (d : Nat) : FS := (yX6_readTest, cX6_readTest, 2, none, jrm d 0 0, [])
theorem ck_X6_readTest : ∀ d : Nat, CkV (fX6_readTest d) 1 := fun d => ⟨q2074, qs67, q128, q2075, (show jok yX6_readTest 1 from ⟨by decide +kernel, by decide +kernel, by decide +kernel⟩)⟩
abbrev fX6_reads : FS := (yX6_reads, cX6_reads, 2, (some (Jvm.ClassFile.FieldType.boolean)), jrm 806 0 0, [])
theorem ck_X6_reads : CkV fX6_reads 0 := ⟨q2008, qs53, q128, q2009, (show jok yX6_reads 0 from ⟨by decide +kernel, by decide +kernel, by decide +kernel⟩)⟩
abbrev fX6_readsAs : FS := (yX6_readsAs, cX6_readsAs, 2, (some (Jvm.ClassFile.FieldType.boolean)), jrm 807 0 0, [])
theorem ck_X6_readsAs : CkV fX6_readsAs 1 := ⟨q2004, qs52, q128, q2005, (show jok yX6_readsAs 1 from ⟨by decide +kernel, by decide +kernel, by decide +kernel⟩)⟩
abbrev fX6_refuses : FS := (yX6_refuses, cX6_refuses, 2, (some (Jvm.ClassFile.FieldType.int)), jrm 1 0 0, [])
theorem ck_X6_refuses : CkV fX6_refuses 1 := ⟨q1917, qs43, q128, q1918, (show jok yX6_refuses 1 from ⟨by decide +kernel, by decide +kernel, by decide +kernel⟩)⟩
abbrev fX6_roadOf : FS := (yX6_roadOf, cX6_roadOf, 2, (some (Jvm.ClassFile.FieldType.int)), jrm 1 0 0, [])
theorem ck_X6_roadOf : CkV fX6_roadOf 1 := ⟨q1960, qs49, q128, q1961, (show jok yX6_roadOf 1 from ⟨by decide +kernel, by decide +kernel, by decide +kernel⟩)⟩
abbrev fX6_row : FS := (yX6_row, cX6_row, 5, (some (Jvm.ClassFile.FieldType.int)), jrm 3 0 0, [])
theorem ck_X6_row : CkV fX6_row 0 := ⟨q1983, q1984, q128, q1985, (show jok yX6_row 0 from ⟨by decide +kernel, by decide +kernel, by decide +kernel⟩)⟩
abbrev fX6_rowsFrom (d : Nat) : FS := (yX6_rowsFrom, cX6_rowsFrom, 8, (some (Jvm.ClassFile.FieldType.long)), jrm d 0 0, [])
theorem ck_X6_rowsFrom : ∀ d : Nat, CkV (fX6_rowsFrom d) 3 := fun d => ⟨q2298, qs110, q128, q2299, (show jok yX6_rowsFrom 3 from ⟨by decide +kernel, by decide +kernel, by decide +kernel⟩)⟩
abbrev fX6_runs : FS := (yX6_runs, cX6_runs, 6, (some (Jvm.ClassFile.FieldType.boolean)), jrm 807 0 0, [])
theorem ck_X6_runs : CkV fX6_runs 1 := ⟨q2353, qs114, q128, q2354, (show jok yX6_runs 1 from ⟨by decide +kernel, by decide +kernel, by decide +kernel⟩)⟩
abbrev fX6_salt : FS := (yX6_salt, cX6_salt, 1, (some (Jvm.ClassFile.FieldType.int)), jrm 1 0 0, [])
theorem ck_X6_salt : CkV fX6_salt 0 := ⟨q1987, q1988, q128, q1989, (show jok yX6_salt 0 from ⟨by decide +kernel, by decide +kernel, by decide +kernel⟩)⟩
abbrev fX6_send : FS := (yX6_send, cX6_send, 2, (some (Jvm.ClassFile.FieldType.int)), jrm 806 0 0, [])
theorem ck_X6_send : CkV fX6_send 1 := ⟨q2188, q2189, q128, q2190, (show jok yX6_send 1 from ⟨by decide +kernel, by decide +kernel, by decide +kernel⟩)⟩
abbrev fX6_sendsKept : FS := (yX6_sendsKept, cX6_sendsKept, 4, (some (Jvm.ClassFile.FieldType.int)), jrm 805 0 0, [])
theorem ck_X6_sendsKept : CkV fX6_sendsKept 1 := ⟨q2193, qs91, q128, q2194, (show jok yX6_sendsKept 1 from ⟨by decide +kernel, by decide +kernel, by decide +kernel⟩)⟩
abbrev fX6_sets : FS := (yX6_sets, cX6_sets, 6, none, jrm 2 0 0, [])
theorem ck_X6_sets : CkV fX6_sets 5 := ⟨q2118, qs75, q128, q2119, (show jok yX6_sets 5 from ⟨by decide +kernel, by decide +kernel, by decide +kernel⟩)⟩
abbrev fX6_setsNow : FS := (yX6_setsNow, cX6_setsNow, 2, none, jrm 3 0 0, [])
theorem ck_X6_setsNow : CkV fX6_setsNow 1 := ⟨q2110, qs73, q128, q2111, (show jok yX6_setsNow 1 from ⟨by decide +kernel, by decide +kernel, by decide +kernel⟩)⟩
abbrev fX6_settled : FS := (yX6_settled, cX6_settled, 2, (some (Jvm.ClassFile.FieldType.int)), jrm 2 0 0, [])
theorem ck_X6_settled : CkV fX6_settled 1 := ⟨q1929, qs45, q128, q1930, (show jok yX6_settled 1 from ⟨by decide +kernel, by decide +kernel, by decide +kernel⟩)⟩
abbrev fX6_share : FS := (yX6_share, cX6_share, 4, (some (Jvm.ClassFile.FieldType.int)), jrm 1208 0 0, [])
theorem ck_X6_share : CkV fX6_share 1 := ⟨q2325, q2326, q128, q2327, (show jok yX6_share 1 from ⟨by decide +kernel, by decide +kernel, by decide +kernel⟩)⟩
abbrev fX6_sign : FS := (yX6_sign, cX6_sign, 1, (some (Jvm.ClassFile.FieldType.int)), jrm 1 0 0, [])
theorem ck_X6_sign : CkS fX6_sign 1 := ⟨q2054, q128, q2055, (show jok yX6_sign 1 from ⟨by decide +kernel, by decide +kernel, by decide +kernel⟩)⟩
abbrev fX6_small : FS := (yX6_small, cX6_small, 2, (some (Jvm.ClassFile.FieldType.int)), jrm 1 0 0, [])
theorem ck_X6_small : CkS fX6_small 1 := ⟨q2360, q128, q2361, (show jok yX6_small 1 from ⟨by decide +kernel, by decide +kernel, by decide +kernel⟩)⟩
abbrev fX6_splits : FS := (yX6_splits, cX6_splits, 6, none, jrm 2 0 0, [])
theorem ck_X6_splits : CkV fX6_splits 1 := ⟨q2012, qs54, q128, q2013, (show jok yX6_splits 1 from ⟨by decide +kernel, by decide +kernel, by decide +kernel⟩)⟩
abbrev fX6_spoilsBy : FS := (yX6_spoilsBy, cX6_spoilsBy, 3, (some (Jvm.ClassFile.FieldType.int)), jrm 804 0 0, [])
theorem ck_X6_spoilsBy : CkV fX6_spoilsBy 2 := ⟨q2181, qs90, q128, q2182, (show jok yX6_spoilsBy 2 from ⟨by decide +kernel, by decide +kernel, by decide +kernel⟩)⟩
abbrev fX6_status : FS := (yX6_status, cX6_status, 1, (some (Jvm.ClassFile.FieldType.int)), jrm 1 0 0, [])
theorem ck_X6_status : CkV fX6_status 0 := ⟨q2387, q2388, q128, q2389, (show jok yX6_status 0 from ⟨by decide +kernel, by decide +kernel, by decide +kernel⟩)⟩
abbrev fX6_stopped : FS := (yX6_stopped, cX6_stopped, 1, (some (Jvm.ClassFile.FieldType.int)), jrm 1 0 0, [])
theorem ck_X6_stopped : CkV fX6_stopped 0 := ⟨q2344, q2345, q128, q2346, (show jok yX6_stopped 0 from ⟨by decide +kernel, by decide +kernel, by decide +kernel⟩)⟩
abbrev fX6_sumOf (d : Nat) : FS := (yX6_sumOf, cX6_sumOf, 7, (some (Jvm.ClassFile.FieldType.long)), jrm d 0 0, [])
theorem ck_X6_sumOf : ∀ d : Nat, CkV (fX6_sumOf d) 1 := fun d => ⟨q2130, qs78, q128, q2131, (show jok yX6_sumOf 1 from ⟨by decide +kernel, by decide +kernel, by decide +kernel⟩)⟩
abbrev fX6_swaps : FS := (yX6_swaps, cX6_swaps, 7, (some (Jvm.ClassFile.FieldType.int)), jrm 1209 0 0, [])
theorem ck_X6_swaps : CkV fX6_swaps 1 := ⟨q2305, q2306, q128, q2307, (show jok yX6_swaps 1 from ⟨by decide +kernel, by decide +kernel, by decide +kernel⟩)⟩
abbrev fX6_takes0 : FS := (yX6_takes0, cX6_takes0, 3, (some (Jvm.ClassFile.FieldType.boolean)), jrm 2 0 0, [])
theorem ck_X6_takes0 : CkV fX6_takes0 1 := ⟨q2035, qs58, q128, q2036, (show jok yX6_takes0 1 from ⟨by decide +kernel, by decide +kernel, by decide +kernel⟩)⟩
abbrev fX6_takesNow : FS := (yX6_takesNow, cX6_takesNow, 2, (some (Jvm.ClassFile.FieldType.int)), jrm 804 0 0, [])
theorem ck_X6_takesNow : CkV fX6_takesNow 1 := ⟨q2106, qs72, q128, q2107, (show jok yX6_takesNow 1 from ⟨by decide +kernel, by decide +kernel, by decide +kernel⟩)⟩
abbrev fX6_talk : FS := (yX6_talk, cX6_talk, 5, (some (Jvm.ClassFile.FieldType.int)), jrm 3 0 0, [])
theorem ck_X6_talk : CkV fX6_talk 3 := ⟨q1971, q1972, q128, q1973, (show jok yX6_talk 3 from ⟨by decide +kernel, by decide +kernel, by decide +kernel⟩)⟩
abbrev fX6_tells : FS := (yX6_tells, cX6_tells, 11, (some (Jvm.ClassFile.FieldType.int)), jrm 803 0 0, [])
theorem ck_X6_tells : CkV fX6_tells 3 := ⟨q2122, qs76, q128, q2123, (show jok yX6_tells 3 from ⟨by decide +kernel, by decide +kernel, by decide +kernel⟩)⟩
abbrev fX6_termOf (d : Nat) : FS := (yX6_termOf, cX6_termOf, 7, (some (Jvm.ClassFile.FieldType.long)), jrm d 0 0, [])
theorem ck_X6_termOf : ∀ d : Nat, CkV (fX6_termOf d) 1 := fun d => ⟨q2134, qs79, q128, q2135, (show jok yX6_termOf 1 from ⟨by decide +kernel, by decide +kernel, by decide +kernel⟩)⟩
abbrev fX6_terms : FS := (yX6_terms, cX6_terms, 5, (some (Jvm.ClassFile.FieldType.int)), jrm 3 0 0, [])
theorem ck_X6_terms : CkV fX6_terms 2 := ⟨q1979, q1980, q128, q1981, (show jok yX6_terms 2 from ⟨by decide +kernel, by decide +kernel, by decide +kernel⟩)⟩
abbrev fX6_testOf (d : Nat) : FS := (yX6_testOf, cX6_testOf, 4, (some (Jvm.ClassFile.FieldType.boolean)), jrm d 0 0, [])
theorem ck_X6_testOf : ∀ d : Nat, CkV (fX6_testOf d) 1 := fun d => ⟨q2153, qs83, q128, q2154, (show jok yX6_testOf 1 from ⟨by decide +kernel, by decide +kernel, by decide +kernel⟩)⟩
abbrev fX6_turnBehind : FS := (yX6_turnBehind, cX6_turnBehind, 6, (some (Jvm.ClassFile.FieldType.int)), jrm 808 0 0, [])
theorem ck_X6_turnBehind : CkV fX6_turnBehind 4 := ⟨q2314, qs112, q128, q2315, (show jok yX6_turnBehind 4 from ⟨by decide +kernel, by decide +kernel, by decide +kernel⟩)⟩
abbrev fX6_turnsFrom (d : Nat) : FS := (yX6_turnsFrom, cX6_turnsFrom, 8, (some (Jvm.ClassFile.FieldType.int)), jrm d 0 0, [])
theorem ck_X6_turnsFrom : ∀ d : Nat, CkV (fX6_turnsFrom d) 3 := fun d => ⟨q2310, qs111, q128, q2311, (show jok yX6_turnsFrom 3 from ⟨by decide +kernel, by decide +kernel, by decide +kernel⟩)⟩
abbrev fX6_undo : FS := (yX6_undo, cX6_undo, 3, (some (Jvm.ClassFile.FieldType.int)), jrm 2 0 0, [])
theorem ck_X6_undo : CkV fX6_undo 0 := ⟨q2184, q2185, q128, q2186, (show jok yX6_undo 0 from ⟨by decide +kernel, by decide +kernel, by decide +kernel⟩)⟩
abbrev fX6_ways : FS := (yX6_ways, cX6_ways, 3, (some (Jvm.ClassFile.FieldType.long)), jrm 1208 0 0, [])
theorem ck_X6_ways : CkV fX6_ways 1 := ⟨q2293, q2294, q128, q2295, (show jok yX6_ways 1 from ⟨by decide +kernel, by decide +kernel, by decide +kernel⟩)⟩
abbrev fX6_who : FS := (yX6_who, cX6_who, 4, (some (Jvm.ClassFile.FieldType.int)), jrm 1208 0 0, [])
theorem ck_X6_who : CkV fX6_who 1 := ⟨q2340, q2341, q128, q2342, (show jok yX6_who 1 from ⟨by decide +kernel, by decide +kernel, by decide +kernel⟩)⟩
abbrev fX6_winter : FS := (yX6_winter, cX6_winter, 8, (some (Jvm.ClassFile.FieldType.int)), jrm 806 0 0, [])
theorem ck_X6_winter : CkV fX6_winter 2 := ⟨q2364, q2365, q128, q2366, (show jok yX6_winter 2 from ⟨by decide +kernel, by decide +kernel, by decide +kernel⟩)⟩
abbrev fX6_wordOf : FS := (yX6_wordOf, cX6_wordOf, 8, (some (Jvm.ClassFile.FieldType.int)), jrm 1 0 0, [])
theorem ck_X6_wordOf : CkV fX6_wordOf 2 := ⟨q2022, qs55, q128, q2023, (show jok yX6_wordOf 2 from ⟨by decide +kernel, by decide +kernel, by decide +kernel⟩)⟩
abbrev fX6_worthOf : FS := (yX6_worthOf, cX6_worthOf, 2, (some (Jvm.ClassFile.FieldType.int)), jrm 1 0 0, [])
theorem ck_X6_worthOf : CkV fX6_worthOf 1 := ⟨q1968, qs51, q128, q1969, (show jok yX6_worthOf 1 from ⟨by decide +kernel, by decide +kernel, by decide +kernel⟩)⟩
abbrev fX7_init : FS := (yX7_init, cX7_init, 3, none, jrm 2 0 0, [])
theorem ck_X7_init : CkI fX7_init 2 := ⟨q471, q129, q472, (show jok yX7_init 2 from ⟨by decide +kernel, by decide +kernel, by decide +kernel⟩), rfl, rfl⟩
abbrev fX8_accept : FS := (yX8_accept, cX8_accept, 3, (some (Jvm.ClassFile.FieldType.boolean)), jrm 7 0 0, [])
abbrev fX8_add : FS := (yX8_add, cX8_add, 2, none, jrm 1 0 0, [])
abbrev fX8_behindWord : FS := (yX8_behindWord, cX8_behindWord, 2, (some ((Jvm.ClassFile.FieldType.object "LitStrangers$Sum"))), jrm 4 1 1, [])
abbrev fX8_both (d : Nat) (c s : Nat) : FS := (yX8_both, cX8_both, 2, (some ((Jvm.ClassFile.FieldType.object "LitStrangers$Test"))), jrm d c s, [])
abbrev fX8_close : FS := (yX8_close, cX8_close, 2, none, jrm 8 1 7, [])
abbrev fX8_init : FS := (yX8_init, cX8_init, 3, none, jrm 2 1 50, [])
theorem ck_X8_init : CkI fX8_init 2 := ⟨q741, q142, q742, (show jok yX8_init 2 from ⟨by decide +kernel, by decide +kernel, by decide +kernel⟩), rfl, rfl⟩
abbrev fX8_isWord : FS := (yX8_isWord, cX8_isWord, 3, (some (Jvm.ClassFile.FieldType.boolean)), jrm 6 0 0, [])
abbrev fX8_leaf : FS := (yX8_leaf, cX8_leaf, 1, none, jrm 6 1 7, [])
abbrev fX8_must : FS := (yX8_must, cX8_must, 2, none, jrm 5 1 7, [])
abbrev fX8_next : FS := (yX8_next, cX8_next, 3, none, jrm 2 0 0, [])
abbrev fX8_number : FS := (yX8_number, cX8_number, 4, (some (Jvm.ClassFile.FieldType.int)), jrm 6 2 14, [])
abbrev fX8_open : FS := (yX8_open, cX8_open, 1, none, jrm 6 1 7, [])
abbrev fX8_part (d : Nat) (c s : Nat) : FS := (yX8_part, cX8_part, 2, (some ((Jvm.ClassFile.FieldType.object "LitStrangers$Sum"))), jrm d c s, [])
abbrev fX8_plain (d : Nat) (c s : Nat) : FS := (yX8_plain, cX8_plain, 5, (some ((Jvm.ClassFile.FieldType.object "LitStrangers$Test"))), jrm d c s, [])
abbrev fX8_readAll : FS := (yX8_readAll, cX8_readAll, 2, (some (Jvm.ClassFile.FieldType.int)), jrm 810 5000 26000, [])
abbrev fX8_row : FS := (yX8_row, cX8_row, 5, (some ((Jvm.ClassFile.FieldType.object "LitStrangers$Test"))), jrm 4 2 28, [])
abbrev fX8_sum (d : Nat) (c s : Nat) : FS := (yX8_sum, cX8_sum, 3, (some ((Jvm.ClassFile.FieldType.object "LitStrangers$Sum"))), jrm d c s, [])
abbrev fX8_term (d : Nat) (c s : Nat) : FS := (yX8_term, cX8_term, 3, (some ((Jvm.ClassFile.FieldType.object "LitStrangers$Sum"))), jrm d c s, [])
abbrev fX8_test (d : Nat) (c s : Nat) : FS := (yX8_test, cX8_test, 2, (some ((Jvm.ClassFile.FieldType.object "LitStrangers$Test"))), jrm d c s, [])
abbrev fX8_which : FS := (yX8_which, cX8_which, 3, (some (Jvm.ClassFile.FieldType.int)), jrm 7 0 0, [])
abbrev fX9_init : FS := (yX9_init, cX9_init, 2, none, jrm 3 4 77, [])
theorem ck_X9_init : CkI fX9_init 1 := ⟨q726, q143, q727, (show jok yX9_init 1 from ⟨by decide +kernel, by decide +kernel, by decide +kernel⟩), rfl, rfl⟩
abbrev fX9_read : FS := (yX9_read, cX9_read, 2, (some ((Jvm.ClassFile.FieldType.object "LitStrangers$Text"))), jrm 811 5002 26013, [])
theorem ck_X9_read : CkV fX9_read 0 := ⟨q791, q792, q143, q793, (show jok yX9_read 0 from ⟨by decide +kernel, by decide +kernel, by decide +kernel⟩)⟩
abbrev fX9_read_2 (c s : Nat) : FS := (yX9_read_2, cX9_read_2, 4, none, jrm 809 c s, [])
