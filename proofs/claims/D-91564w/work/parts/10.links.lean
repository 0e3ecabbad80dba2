set_option maxRecDepth 100000








theorem fa_X2_37_2 : zFA RX2 37 2 6 := ⟨RX2, TX2, 11, "WheelLand$Hands", rfl, in_X2, by decide, rfl, by decide, Or.inl q187, Or.inl rfl⟩
theorem fa_X2_34_2 : zFA RX2 34 2 4 := ⟨RX2, TX2, 11, "WheelLand$Hands", rfl, in_X2, by decide, rfl, by decide, Or.inl q184, Or.inl rfl⟩
theorem fa_X2_23_2 : zFA RX2 23 2 1 := ⟨RX2, TX2, 11, "WheelLand$Hands", rfl, in_X2, by decide, rfl, by decide, Or.inl q179, Or.inl rfl⟩
theorem fa_X2_82_5 : zFA RX2 82 5 15 := ⟨RX5, TX5, 16, "WheelLand$House", rfl, in_X5, by decide, rfl, by decide, Or.inr ⟨"WheelLand", List.mem_of_getElem? (i := 43) rfl⟩, Or.inl rfl⟩
theorem fa_X2_86_6 : zFA RX2 86 6 2 := ⟨RX6, TX6, 4, "WheelLand$Loom", rfl, in_X6, by decide, rfl, by decide, Or.inr ⟨"WheelLand", List.mem_of_getElem? (i := 47) rfl⟩, Or.inl rfl⟩
theorem lk_X2_91 : zLN 1 RX2 91 yX0_begun "WheelLand" cX0_begun 2 (some .int) 2 := ⟨lw_meth q624, List.mem_of_getElem? (i := 6) rfl, q95, (fun h => by cases h), (fun _ => q623), (fun h => by cases h), by decide +kernel, by decide +kernel, by decide +kernel⟩
theorem lk_X2_95 : zLS RX2 95 yJ0_max cJ0_max 2 (some .int) 2 := ⟨lw_S q1119 q584 q102 q585, by decide +kernel, by decide +kernel, by decide +kernel⟩
theorem fa_X2_51_2 : zFA RX2 51 2 7 := ⟨RX2, TX2, 11, "WheelLand$Hands", rfl, in_X2, by decide, rfl, by decide, Or.inl q188, Or.inl rfl⟩
theorem fa_X2_100_2 : zFA RX2 100 2 8 := ⟨RX2, TX2, 11, "WheelLand$Hands", rfl, in_X2, by decide, rfl, by decide, Or.inl q190, Or.inl rfl⟩
theorem fa_X2_103_2 : zFA RX2 103 2 9 := ⟨RX2, TX2, 11, "WheelLand$Hands", rfl, in_X2, by decide, rfl, by decide, Or.inl q192, Or.inl rfl⟩
theorem pa_X2_51_2 : zPA false RX2 51 2 7 (.int) := ⟨RX2, TX2, 11, "WheelLand$Hands", tyX2, rfl, in_X2, by decide, rfl, by decide, tyX2_ok, nmX2, Or.inl q188, Or.inl rfl, rfl, (fun h => by cases h), by decide +kernel⟩
theorem pa_X2_100_2 : zPA false RX2 100 2 8 (.int) := ⟨RX2, TX2, 11, "WheelLand$Hands", tyX2, rfl, in_X2, by decide, rfl, by decide, tyX2_ok, nmX2, Or.inl q190, Or.inl rfl, rfl, (fun h => by cases h), by decide +kernel⟩
theorem pa_X2_103_2 : zPA false RX2 103 2 9 (.int) := ⟨RX2, TX2, 11, "WheelLand$Hands", tyX2, rfl, in_X2, by decide, rfl, by decide, tyX2_ok, nmX2, Or.inl q192, Or.inl rfl, rfl, (fun h => by cases h), by decide +kernel⟩
theorem fa_X2_41_2 : zFA RX2 41 2 5 := ⟨RX2, TX2, 11, "WheelLand$Hands", rfl, in_X2, by decide, rfl, by decide, Or.inl q185, Or.inl rfl⟩
theorem fa_X2_31_2 : zFA RX2 31 2 3 := ⟨RX2, TX2, 11, "WheelLand$Hands", rfl, in_X2, by decide, rfl, by decide, Or.inl q182, Or.inl rfl⟩
theorem fa_X2_27_2 : zFA RX2 27 2 2 := ⟨RX2, TX2, 11, "WheelLand$Hands", rfl, in_X2, by decide, rfl, by decide, Or.inl q181, Or.inl rfl⟩
theorem fa_X8_30_8 : zFA RX8 30 8 6 := ⟨RX8, TX8, 7, "WheelLand$Lot", rfl, in_X8, by decide, rfl, by decide, Or.inl q594, Or.inl rfl⟩
theorem fa_X0_62_0 : zFA RX0 62 0 8 := ⟨RX0, TX0, 35, "WheelLand", rfl, in_X0, by decide, rfl, by decide, Or.inl q227, Or.inl rfl⟩
theorem fa_X0_144_4 : zFA RX0 144 4 0 := ⟨RX4, TX4, 18, "WheelLand$Village", rfl, in_X4, by decide, rfl, by decide, Or.inr ⟨"WheelLand", List.mem_of_getElem? (i := 8) rfl⟩, Or.inl rfl⟩
theorem fa_X0_65_0 : zFA RX0 65 0 9 := ⟨RX0, TX0, 35, "WheelLand", rfl, in_X0, by decide, rfl, by decide, Or.inl q228, Or.inl rfl⟩
theorem lk_X0_366 : zLS RX0 366 yX0_seasonOf cX0_seasonOf 1 (some .int) 1 := ⟨lw_S q645 q563 q95 q564, by decide +kernel, by decide +kernel, by decide +kernel⟩
theorem fa_X0_151_0 : zFA RX0 151 0 14 := ⟨RX0, TX0, 35, "WheelLand", rfl, in_X0, by decide, rfl, by decide, Or.inl q233, Or.inl rfl⟩
theorem lk_X0_259 : zLV RX0 259 yX0_clears cX0_clears 3 (none) 1 := ⟨lw_V q641 q643 qs10 q95 q644, by decide +kernel, by decide +kernel, by decide +kernel⟩
theorem fa_X0_374_5 : zFA RX0 374 5 2 := ⟨RX5, TX5, 16, "WheelLand$House", rfl, in_X5, by decide, rfl, by decide, Or.inr ⟨"WheelLand", List.mem_of_getElem? (i := 28) rfl⟩, Or.inl rfl⟩
theorem fa_X0_202_5 : zFA RX0 202 5 4 := ⟨RX5, TX5, 16, "WheelLand$House", rfl, in_X5, by decide, rfl, by decide, Or.inr ⟨"WheelLand", List.mem_of_getElem? (i := 31) rfl⟩, Or.inl rfl⟩
theorem fa_X0_237_5 : zFA RX0 237 5 5 := ⟨RX5, TX5, 16, "WheelLand$House", rfl, in_X5, by decide, rfl, by decide, Or.inr ⟨"WheelLand", List.mem_of_getElem? (i := 32) rfl⟩, Or.inl rfl⟩
theorem fa_X0_377_5 : zFA RX0 377 5 1 := ⟨RX5, TX5, 16, "WheelLand$House", rfl, in_X5, by decide, rfl, by decide, Or.inr ⟨"WheelLand", List.mem_of_getElem? (i := 27) rfl⟩, Or.inl rfl⟩
theorem fa_X0_240_5 : zFA RX0 240 5 3 := ⟨RX5, TX5, 16, "WheelLand$House", rfl, in_X5, by decide, rfl, by decide, Or.inr ⟨"WheelLand", List.mem_of_getElem? (i := 30) rfl⟩, Or.inl rfl⟩
theorem fa_X0_380_4 : zFA RX0 380 4 2 := ⟨RX4, TX4, 18, "WheelLand$Village", rfl, in_X4, by decide, rfl, by decide, Or.inr ⟨"WheelLand", List.mem_of_getElem? (i := 11) rfl⟩, Or.inl rfl⟩
theorem fa_X0_356_0 : zFA RX0 356 0 20 := ⟨RX0, TX0, 35, "WheelLand", rfl, in_X0, by decide, rfl, by decide, Or.inl q239, Or.inl rfl⟩
theorem fa_X0_56_0 : zFA RX0 56 0 6 := ⟨RX0, TX0, 35, "WheelLand", rfl, in_X0, by decide, rfl, by decide, Or.inl q225, Or.inl rfl⟩
theorem fa_X0_48_0 : zFA RX0 48 0 4 := ⟨RX0, TX0, 35, "WheelLand", rfl, in_X0, by decide, rfl, by decide, Or.inl q223, Or.inl rfl⟩
theorem fa_X0_52_0 : zFA RX0 52 0 5 := ⟨RX0, TX0, 35, "WheelLand", rfl, in_X0, by decide, rfl, by decide, Or.inl q224, Or.inl rfl⟩
theorem fa_X0_359_10 : zFA RX0 359 10 0 := ⟨RX10, TX10, 1, "WheelLand$Sheet", rfl, in_X10, by decide, rfl, by decide, Or.inr ⟨"WheelLand", List.mem_of_getElem? (i := 56) rfl⟩, Or.inl rfl⟩
theorem lk_X0_7 : zLS RX0 7 yJ0_min_2 cJ0_min_2 4 (some .long) 2 := ⟨lw_S q666 q667 q102 q668, by decide +kernel, by decide +kernel, by decide +kernel⟩
theorem lk_X0_13 : zLS RX0 13 yJ0_max_2 cJ0_max_2 4 (some .long) 2 := ⟨lw_S q669 q670 q102 q671, by decide +kernel, by decide +kernel, by decide +kernel⟩
theorem lk_X9_21 : zLN 1 RX9 21 yX0_near "WheelLand" cX0_near 2 (some .int) 1 := ⟨lw_meth q663, List.mem_of_getElem? (i := 3) rfl, q95, (fun h => by cases h), (fun _ => q662), (fun h => by cases h), by decide +kernel, by decide +kernel, by decide +kernel⟩
theorem fa_X9_7_9 : zFA RX9 7 9 0 := ⟨RX9, TX9, 2, "WheelLand$Steps", rfl, in_X9, by decide, rfl, by decide, Or.inl q1002, Or.inl rfl⟩
theorem fa_X9_13_9 : zFA RX9 13 9 1 := ⟨RX9, TX9, 2, "WheelLand$Steps", rfl, in_X9, by decide, rfl, by decide, Or.inl q1004, Or.inl rfl⟩
theorem lk_X9_17 : zLS RX9 17 yX9_joined cX9_joined 3 (some .int) 3 := ⟨lw_S q658 q659 q105 q660, by decide +kernel, by decide +kernel, by decide +kernel⟩
theorem lk_X0_363 : zLV RX0 363 yX0_inForce cX0_inForce 6 (some .int) 2 := ⟨lw_V q650 q652 qs12 q95 q653, by decide +kernel, by decide +kernel, by decide +kernel⟩
theorem fa_X0_68_0 : zFA RX0 68 0 10 := ⟨RX0, TX0, 35, "WheelLand", rfl, in_X0, by decide, rfl, by decide, Or.inl q229, Or.inl rfl⟩
theorem lk_X0_369 : zLV RX0 369 yX9_value cX9_value 5 (some .int) 2 := ⟨lw_V q654 q655 q656 q105 q657, by decide +kernel, by decide +kernel, by decide +kernel⟩
theorem lk_X0_383 : zLV RX0 383 yX0_ofHouse cX0_ofHouse 2 (none) 1 := ⟨lw_V q693 q695 qs15 q95 q696, by decide +kernel, by decide +kernel, by decide +kernel⟩
theorem lk_X0_263 : zLV RX0 263 yX0_value cX0_value 3 (some .int) 1 := ⟨lw_V q646 q648 qs11 q95 q649, by decide +kernel, by decide +kernel, by decide +kernel⟩
theorem fa_X0_321_8 : zFA RX0 321 8 0 := ⟨RX8, TX8, 7, "WheelLand$Lot", rfl, in_X8, by decide, rfl, by decide, Or.inl q599, Or.inr q598⟩
theorem fa_X0_329_8 : zFA RX0 329 8 3 := ⟨RX8, TX8, 7, "WheelLand$Lot", rfl, in_X8, by decide, rfl, by decide, Or.inr ⟨"WheelLand", List.mem_of_getElem? (i := 51) rfl⟩, Or.inl rfl⟩
theorem fa_X0_332_8 : zFA RX0 332 8 4 := ⟨RX8, TX8, 7, "WheelLand$Lot", rfl, in_X8, by decide, rfl, by decide, Or.inr ⟨"WheelLand", List.mem_of_getElem? (i := 52) rfl⟩, Or.inl rfl⟩
theorem lk_X0_147 : zLV RX0 147 yX0_farOf cX0_farOf 3 (some .int) 2 := ⟨lw_V q427 q429 qs3 q95 q430, by decide +kernel, by decide +kernel, by decide +kernel⟩
theorem lk_X0_386 : zLV RX0 386 yX0_asks cX0_asks 8 (some .int) 7 := ⟨lw_V q1053 q1055 qs38 q95 q1056, by decide +kernel, by decide +kernel, by decide +kernel⟩
theorem fa_X0_161_5 : zFA RX0 161 5 15 := ⟨RX5, TX5, 16, "WheelLand$House", rfl, in_X5, by decide, rfl, by decide, Or.inr ⟨"WheelLand", List.mem_of_getElem? (i := 44) rfl⟩, Or.inl rfl⟩
theorem fa_X0_396_6 : zFA RX0 396 6 0 := ⟨RX6, TX6, 4, "WheelLand$Loom", rfl, in_X6, by decide, rfl, by decide, Or.inr ⟨"WheelLand", List.mem_of_getElem? (i := 45) rfl⟩, Or.inl rfl⟩
theorem fa_X0_399_6 : zFA RX0 399 6 1 := ⟨RX6, TX6, 4, "WheelLand$Loom", rfl, in_X6, by decide, rfl, by decide, Or.inr ⟨"WheelLand", List.mem_of_getElem? (i := 46) rfl⟩, Or.inl rfl⟩
theorem lk_X0_116 : zLS RX0 116 yX0_in cX0_in 3 (some .boolean) 3 := ⟨lw_S q330 q331 q95 q332, by decide +kernel, by decide +kernel, by decide +kernel⟩
theorem lk_X0_402 : zLV RX0 402 yX0_asksLot cX0_asksLot 5 (some .int) 4 := ⟨lw_V q1049 q1051 qs37 q95 q1052, by decide +kernel, by decide +kernel, by decide +kernel⟩
theorem lk_X2_58 : zLV RX2 58 yX2_judges cX2_judges 5 (none) 2 := ⟨lw_V q1114 q1116 qs41 q97 q1117, by decide +kernel, by decide +kernel, by decide +kernel⟩
theorem fa_X2_17_2 : zFA RX2 17 2 0 := ⟨RX2, TX2, 11, "WheelLand$Hands", rfl, in_X2, by decide, rfl, by decide, Or.inl q177, Or.inl rfl⟩
theorem lk_X2_62 : zLV RX2 62 yX8_even cX8_even 1 (some .int) 0 := ⟨lw_V q1120 q1121 q1122 q104 q1123, by decide +kernel, by decide +kernel, by decide +kernel⟩
theorem fa_X2_3_2 : zFA RX2 3 2 10 := ⟨RX2, TX2, 11, "WheelLand$Hands", rfl, in_X2, by decide, rfl, by decide, Or.inl q194, Or.inl rfl⟩
theorem lk_X2_66 : zLN 0 RX2 66 yX0_barOf "WheelLand" cX0_barOf 4 (some .int) 3 := ⟨lw_meth q1048, List.mem_of_getElem? (i := 7) rfl, q95, (fun _ => ⟨q1047, qs36⟩), (fun h => by cases h), (fun h => by cases h), by decide +kernel, by decide +kernel, by decide +kernel⟩
theorem fa_X2_70_8 : zFA RX2 70 8 0 := ⟨RX8, TX8, 7, "WheelLand$Lot", rfl, in_X8, by decide, rfl, by decide, Or.inl q597, Or.inr q598⟩
theorem fa_X2_74_5 : zFA RX2 74 5 3 := ⟨RX5, TX5, 16, "WheelLand$House", rfl, in_X5, by decide, rfl, by decide, Or.inr ⟨"WheelLand", List.mem_of_getElem? (i := 29) rfl⟩, Or.inl rfl⟩
theorem lk_X2_78 : zLN 0 RX2 78 yX0_farOf "WheelLand" cX0_farOf 3 (some .int) 2 := ⟨lw_meth q430, List.mem_of_getElem? (i := 8) rfl, q95, (fun _ => ⟨q429, qs3⟩), (fun h => by cases h), (fun h => by cases h), by decide +kernel, by decide +kernel, by decide +kernel⟩
theorem lk_X2_54 : zLV RX2 54 yX2_tries cX2_tries 7 (none) 3 := ⟨lw_V q1110 q1112 qs40 q97 q1113, by decide +kernel, by decide +kernel, by decide +kernel⟩
theorem fa_X3_507_3 : zFA RX3 507 3 87 := ⟨RX3, TX3, 97, "WheelLandModel", rfl, in_X3, by decide, rfl, by decide, Or.inl q1334, Or.inl rfl⟩
theorem fa_X3_504_3 : zFA RX3 504 3 86 := ⟨RX3, TX3, 97, "WheelLandModel", rfl, in_X3, by decide, rfl, by decide, Or.inl q1333, Or.inl rfl⟩
theorem fa_X3_243_3 : zFA RX3 243 3 82 := ⟨RX3, TX3, 97, "WheelLandModel", rfl, in_X3, by decide, rfl, by decide, Or.inl q1329, Or.inl rfl⟩
theorem fa_X3_237_3 : zFA RX3 237 3 80 := ⟨RX3, TX3, 97, "WheelLandModel", rfl, in_X3, by decide, rfl, by decide, Or.inl q1327, Or.inl rfl⟩
theorem fa_X3_253_3 : zFA RX3 253 3 85 := ⟨RX3, TX3, 97, "WheelLandModel", rfl, in_X3, by decide, rfl, by decide, Or.inl q1332, Or.inl rfl⟩
theorem fa_X3_99_3 : zFA RX3 99 3 32 := ⟨RX3, TX3, 97, "WheelLandModel", rfl, in_X3, by decide, rfl, by decide, Or.inl q1279, Or.inl rfl⟩
theorem fa_X3_240_3 : zFA RX3 240 3 81 := ⟨RX3, TX3, 97, "WheelLandModel", rfl, in_X3, by decide, rfl, by decide, Or.inl q1328, Or.inl rfl⟩
theorem fa_X3_510_3 : zFA RX3 510 3 88 := ⟨RX3, TX3, 97, "WheelLandModel", rfl, in_X3, by decide, rfl, by decide, Or.inl q1335, Or.inl rfl⟩
theorem fa_X3_513_3 : zFA RX3 513 3 89 := ⟨RX3, TX3, 97, "WheelLandModel", rfl, in_X3, by decide, rfl, by decide, Or.inl q1336, Or.inl rfl⟩
theorem fa_X3_516_3 : zFA RX3 516 3 90 := ⟨RX3, TX3, 97, "WheelLandModel", rfl, in_X3, by decide, rfl, by decide, Or.inl q1337, Or.inl rfl⟩
theorem pa_X3_510_3 : zPA false RX3 510 3 88 (.int) := ⟨RX3, TX3, 97, "WheelLandModel", tyX3, rfl, in_X3, by decide, rfl, by decide, tyX3_ok, nmX3, Or.inl q1335, Or.inl rfl, rfl, (fun h => by cases h), by decide +kernel⟩
theorem pa_X3_513_3 : zPA false RX3 513 3 89 (.int) := ⟨RX3, TX3, 97, "WheelLandModel", tyX3, rfl, in_X3, by decide, rfl, by decide, tyX3_ok, nmX3, Or.inl q1336, Or.inl rfl, rfl, (fun h => by cases h), by decide +kernel⟩
theorem pa_X3_516_3 : zPA false RX3 516 3 90 (.int) := ⟨RX3, TX3, 97, "WheelLandModel", tyX3, rfl, in_X3, by decide, rfl, by decide, tyX3_ok, nmX3, Or.inl q1337, Or.inl rfl, rfl, (fun h => by cases h), by decide +kernel⟩
theorem fa_X3_246_3 : zFA RX3 246 3 83 := ⟨RX3, TX3, 97, "WheelLandModel", rfl, in_X3, by decide, rfl, by decide, Or.inl q1330, Or.inl rfl⟩
theorem lk_X3_519 : zLV RX3 519 yX3_looks cX3_looks 7 (none) 0 := ⟨lw_V q1815 q1817 qs79 q98 q1818, by decide +kernel, by decide +kernel, by decide +kernel⟩
theorem fa_X3_251_3 : zFA RX3 251 3 84 := ⟨RX3, TX3, 97, "WheelLandModel", rfl, in_X3, by decide, rfl, by decide, Or.inl q1331, Or.inl rfl⟩
theorem lk_X3_522 : zLV RX3 522 yX3_tries cX3_tries 3 (none) 1 := ⟨lw_V q1811 q1813 qs78 q98 q1814, by decide +kernel, by decide +kernel, by decide +kernel⟩
theorem fa_X3_321_3 : zFA RX3 321 3 42 := ⟨RX3, TX3, 97, "WheelLandModel", rfl, in_X3, by decide, rfl, by decide, Or.inl q1289, Or.inl rfl⟩
theorem fa_X3_314_3 : zFA RX3 314 3 41 := ⟨RX3, TX3, 97, "WheelLandModel", rfl, in_X3, by decide, rfl, by decide, Or.inl q1288, Or.inl rfl⟩
theorem fa_X3_121_3 : zFA RX3 121 3 40 := ⟨RX3, TX3, 97, "WheelLandModel", rfl, in_X3, by decide, rfl, by decide, Or.inl q1287, Or.inl rfl⟩
theorem fa_X3_344_3 : zFA RX3 344 3 44 := ⟨RX3, TX3, 97, "WheelLandModel", rfl, in_X3, by decide, rfl, by decide, Or.inl q1291, Or.inl rfl⟩
theorem pa_X3_344_3 : zPA false RX3 344 3 44 (.int) := ⟨RX3, TX3, 97, "WheelLandModel", tyX3, rfl, in_X3, by decide, rfl, by decide, tyX3_ok, nmX3, Or.inl q1291, Or.inl rfl, rfl, (fun h => by cases h), by decide +kernel⟩
theorem pa_X3_321_3 : zPA false RX3 321 3 42 (.int) := ⟨RX3, TX3, 97, "WheelLandModel", tyX3, rfl, in_X3, by decide, rfl, by decide, tyX3_ok, nmX3, Or.inl q1289, Or.inl rfl, rfl, (fun h => by cases h), by decide +kernel⟩
theorem pa_X3_324_3 : zPA false RX3 324 3 43 (.int) := ⟨RX3, TX3, 97, "WheelLandModel", tyX3, rfl, in_X3, by decide, rfl, by decide, tyX3_ok, nmX3, Or.inl q1290, Or.inl rfl, rfl, (fun h => by cases h), by decide +kernel⟩
theorem lk_X3_327 : zLS RX3 327 yX3_isLetter cX3_isLetter 1 (some .boolean) 1 := ⟨lw_S q1625 q1626 q98 q1627, by decide +kernel, by decide +kernel, by decide +kernel⟩
theorem lk_X3_330 : zLS RX3 330 yX3_isDigit cX3_isDigit 1 (some .boolean) 1 := ⟨lw_S q1628 q1629 q98 q1630, by decide +kernel, by decide +kernel, by decide +kernel⟩
theorem fa_X3_324_3 : zFA RX3 324 3 43 := ⟨RX3, TX3, 97, "WheelLandModel", rfl, in_X3, by decide, rfl, by decide, Or.inl q1290, Or.inl rfl⟩
theorem lk_X3_333 : zLV RX3 333 yX3_skips cX3_skips 1 (none) 0 := ⟨lw_V q1621 q1623 qs50 q98 q1624, by decide +kernel, by decide +kernel, by decide +kernel⟩
theorem lk_X3_347 : zLV RX3 347 yX3_fails cX3_fails 1 (some .boolean) 0 := ⟨lw_V q1645 q1647 qs54 q98 q1648, by decide +kernel, by decide +kernel, by decide +kernel⟩
theorem lk_X3_351 : zLV RX3 351 yX3_goesOn cX3_goesOn 1 (none) 0 := ⟨lw_V q1649 q1651 qs55 q98 q1652, by decide +kernel, by decide +kernel, by decide +kernel⟩
theorem pa_X3_360_3 : zPA false RX3 360 3 46 (.int) := ⟨RX3, TX3, 97, "WheelLandModel", tyX3, rfl, in_X3, by decide, rfl, by decide, tyX3_ok, nmX3, Or.inl q1293, Or.inl rfl, rfl, (fun h => by cases h), by decide +kernel⟩
theorem fa_X3_360_3 : zFA RX3 360 3 46 := ⟨RX3, TX3, 97, "WheelLandModel", rfl, in_X3, by decide, rfl, by decide, Or.inl q1293, Or.inl rfl⟩
theorem fa_X3_127_3 : zFA RX3 127 3 48 := ⟨RX3, TX3, 97, "WheelLandModel", rfl, in_X3, by decide, rfl, by decide, Or.inl q1295, Or.inl rfl⟩
theorem fa_X3_354_3 : zFA RX3 354 3 47 := ⟨RX3, TX3, 97, "WheelLandModel", rfl, in_X3, by decide, rfl, by decide, Or.inl q1294, Or.inl rfl⟩
theorem fa_X3_357_3 : zFA RX3 357 3 45 := ⟨RX3, TX3, 97, "WheelLandModel", rfl, in_X3, by decide, rfl, by decide, Or.inl q1292, Or.inl rfl⟩
theorem pa_X3_357_3 : zPA false RX3 357 3 45 (.int) := ⟨RX3, TX3, 97, "WheelLandModel", tyX3, rfl, in_X3, by decide, rfl, by decide, tyX3_ok, nmX3, Or.inl q1292, Or.inl rfl, rfl, (fun h => by cases h), by decide +kernel⟩
theorem lk_J1_335 : zLV RJ1 335 yJ1_coder cJ1_coder 1 (some .byte) 0 := ⟨lw_V q779 q780 q781 q107 q782, by decide +kernel, by decide +kernel, by decide +kernel⟩
theorem lk_J1_1059 : zLS RJ1 1059 yJ4_checkIndex cJ4_checkIndex 3 (some .int) 3 := ⟨lw_S q936 q937 q110 q938, by decide +kernel, by decide +kernel, by decide +kernel⟩
theorem lk_J2_9 : zLS RJ2 9 yJ1_checkIndex cJ1_checkIndex 2 (none) 2 := ⟨lw_S q933 q934 q107 q935, by decide +kernel, by decide +kernel, by decide +kernel⟩
theorem lk_J1_492 : zLV RJ1 492 yJ1_isLatin1 cJ1_isLatin1 1 (some .boolean) 0 := ⟨lw_V q769 q770 q771 q107 q772, by decide +kernel, by decide +kernel, by decide +kernel⟩
theorem lk_J1_495 : zLS RJ1 495 yJ2_charAt cJ2_charAt 2 (some .char) 2 := ⟨lw_S q930 q931 q108 q932, by decide +kernel, by decide +kernel, by decide +kernel⟩
theorem lk_X3_336 : zLV RX3 336 yJ1_length cJ1_length 1 (some .int) 0 := ⟨lw_V q1639 q776 q777 q107 q778, by decide +kernel, by decide +kernel, by decide +kernel⟩
theorem lk_X3_340 : zLV RX3 340 yJ1_charAt cJ1_charAt 2 (some .char) 1 := ⟨lw_V q1640 q927 q928 q107 q929, by decide +kernel, by decide +kernel, by decide +kernel⟩
theorem lk_X3_365 : zLV RX3 365 yX3_isSign cX3_isSign 2 (some .boolean) 1 := ⟨lw_V q1665 q1667 qs59 q98 q1668, by decide +kernel, by decide +kernel, by decide +kernel⟩
theorem lk_X3_375 : zLV RX3 375 yX3_isNumber cX3_isNumber 2 (some .boolean) 0 := ⟨lw_V q1669 q1671 qs60 q98 q1672, by decide +kernel, by decide +kernel, by decide +kernel⟩
theorem fa_X3_176_3 : zFA RX3 176 3 55 := ⟨RX3, TX3, 97, "WheelLandModel", rfl, in_X3, by decide, rfl, by decide, Or.inl q1302, Or.inl rfl⟩
theorem lk_X3_382 : zLV RX3 382 yX3_isWord cX3_isWord 3 (some .boolean) 1 := ⟨lw_V q1635 q1637 qs52 q98 q1638, by decide +kernel, by decide +kernel, by decide +kernel⟩
theorem lk_X3_368 : zLV RX3 368 yX3_passes cX3_passes 2 (some .boolean) 1 := ⟨lw_V q1641 q1643 qs53 q98 q1644, by decide +kernel, by decide +kernel, by decide +kernel⟩
theorem lk_X3_378 : zLV RX3 378 yX3_puts cX3_puts 3 (some .boolean) 2 := ⟨lw_V q1675 q1677 qs61 q98 q1678, by decide +kernel, by decide +kernel, by decide +kernel⟩
theorem lk_X3_372 : zLV RX3 372 yX3_sum cX3_sum 3 (some .boolean) 1 := ⟨lw_V q1653 q1655 qs56 q98 q1656, by decide +kernel, by decide +kernel, by decide +kernel⟩
theorem lk_X3_386 : zLV RX3 386 yX3_factor cX3_factor 3 (some .boolean) 1 := ⟨lw_V q1661 q1663 qs58 q98 q1664, by decide +kernel, by decide +kernel, by decide +kernel⟩
theorem lk_X3_389 : zLV RX3 389 yX3_product cX3_product 3 (some .boolean) 1 := ⟨lw_V q1657 q1659 qs57 q98 q1660, by decide +kernel, by decide +kernel, by decide +kernel⟩
theorem lk_X3_394 : zLV RX3 394 yX3_test cX3_test 3 (some .boolean) 1 := ⟨lw_V q1687 q1689 qs64 q98 q1690, by decide +kernel, by decide +kernel, by decide +kernel⟩
theorem lk_X3_402 : zLV RX3 402 yX3_each cX3_each 2 (some .boolean) 1 := ⟨lw_V q1683 q1685 qs63 q98 q1686, by decide +kernel, by decide +kernel, by decide +kernel⟩
theorem lk_X3_397 : zLV RX3 397 yX3_either cX3_either 2 (some .boolean) 1 := ⟨lw_V q1679 q1681 qs62 q98 q1682, by decide +kernel, by decide +kernel, by decide +kernel⟩
theorem lk_J2_88 : zLS RJ2 88 yJ2_canEncode cJ2_canEncode 1 (some .boolean) 1 := ⟨lw_S q786 q787 q108 q788, by decide +kernel, by decide +kernel, by decide +kernel⟩
theorem lk_J2_92 : zLS RJ2 92 yJ0_max cJ0_max 2 (some .int) 2 := ⟨lw_S q789 q584 q102 q585, by decide +kernel, by decide +kernel, by decide +kernel⟩
theorem lk_J2_38 : zLS RJ2 38 yJ0_min cJ0_min 2 (some .int) 2 := ⟨lw_S q790 q569 q102 q570, by decide +kernel, by decide +kernel, by decide +kernel⟩
theorem lk_J2_95 : zLS RJ2 95 yJ2_indexOfChar cJ2_indexOfChar 6 (some .int) 4 := ⟨lw_S q791 q792 q108 q793, by decide +kernel, by decide +kernel, by decide +kernel⟩
theorem lk_J1_505 : zLV RJ1 505 yJ1_length cJ1_length 1 (some .int) 0 := ⟨lw_V q775 q776 q777 q107 q778, by decide +kernel, by decide +kernel, by decide +kernel⟩
theorem lk_J1_637 : zLS RJ1 637 yJ2_indexOf cJ2_indexOf 4 (some .int) 4 := ⟨lw_S q783 q784 q108 q785, by decide +kernel, by decide +kernel, by decide +kernel⟩
theorem lk_J1_633 : zLV RJ1 633 yJ1_indexOf_2 cJ1_indexOf_2 3 (some .int) 2 := ⟨lw_V q765 q766 q767 q107 q768, by decide +kernel, by decide +kernel, by decide +kernel⟩
theorem na_X1_50 : zNA RX1 50 11 := ⟨RX11, TX11, 7, tyX11, rfl, in_X11, tyX11_ok, q847, q848, q115, rfl, by decide, (by intro j hj; rcases (show j = 0 ∨ j = 1 ∨ j = 2 ∨ j = 3 ∨ j = 4 ∨ j = 5 ∨ j = 6 by omega) with rfl | rfl | rfl | rfl | rfl | rfl | rfl <;> rfl)⟩
theorem fa_X1_29_1 : zFA RX1 29 1 5 := ⟨RX1, TX1, 8, "WheelLand$Reader", rfl, in_X1, by decide, rfl, by decide, Or.inl q147, Or.inl rfl⟩
theorem lk_X1_52 : zLI RX1 52 yX11_init cX11_init 2 1 := ⟨lw_meth q888, q115, q886, q887, rfl, by decide +kernel, by decide +kernel, by decide +kernel⟩
theorem fa_X1_19_1 : zFA RX1 19 1 4 := ⟨RX1, TX1, 8, "WheelLand$Reader", rfl, in_X1, by decide, rfl, by decide, Or.inl q146, Or.inl rfl⟩
theorem fa_X1_23_1 : zFA RX1 23 1 3 := ⟨RX1, TX1, 8, "WheelLand$Reader", rfl, in_X1, by decide, rfl, by decide, Or.inl q145, Or.inl rfl⟩
theorem fa_X1_26_1 : zFA RX1 26 1 2 := ⟨RX1, TX1, 8, "WheelLand$Reader", rfl, in_X1, by decide, rfl, by decide, Or.inl q144, Or.inl rfl⟩
theorem pa_X1_19_1 : zPA false RX1 19 1 4 (.int) := ⟨RX1, TX1, 8, "WheelLand$Reader", tyX1, rfl, in_X1, by decide, rfl, by decide, tyX1_ok, nmX1, Or.inl q146, Or.inl rfl, rfl, (fun h => by cases h), by decide +kernel⟩
theorem pa_X1_29_1 : zPA false RX1 29 1 5 (.int) := ⟨RX1, TX1, 8, "WheelLand$Reader", tyX1, rfl, in_X1, by decide, rfl, by decide, tyX1_ok, nmX1, Or.inl q147, Or.inl rfl, rfl, (fun h => by cases h), by decide +kernel⟩
theorem lk_X1_32 : zLS RX1 32 yX1_isLetter cX1_isLetter 1 (some .boolean) 1 := ⟨lw_S q754 q755 q96 q756, by decide +kernel, by decide +kernel, by decide +kernel⟩
theorem lk_X1_36 : zLS RX1 36 yX1_isDigit cX1_isDigit 1 (some .boolean) 1 := ⟨lw_S q757 q758 q96 q759, by decide +kernel, by decide +kernel, by decide +kernel⟩
theorem lk_X1_41 : zLV RX1 41 yJ1_indexOf cJ1_indexOf 2 (some .int) 1 := ⟨lw_V q761 q762 q763 q107 q764, by decide +kernel, by decide +kernel, by decide +kernel⟩
theorem lk_X1_47 : zLV RX1 47 yX1_errs cX1_errs 1 (none) 0 := ⟨lw_V q843 q845 qs20 q96 q846, by decide +kernel, by decide +kernel, by decide +kernel⟩
theorem lk_X1_55 : zLV RX1 55 yX1_isOver cX1_isOver 1 (some .boolean) 0 := ⟨lw_V q915 q917 qs22 q96 q918, by decide +kernel, by decide +kernel, by decide +kernel⟩
theorem lk_X1_74 : zLV RX1 74 yX1_is cX1_is 2 (some .boolean) 1 := ⟨lw_V q958 q960 qs27 q96 q961, by decide +kernel, by decide +kernel, by decide +kernel⟩
theorem lk_X1_77 : zLV RX1 77 yX1_next cX1_next 2 (none) 0 := ⟨lw_V q750 q752 qs19 q96 q753, by decide +kernel, by decide +kernel, by decide +kernel⟩
theorem fa_X1_83_1 : zFA RX1 83 1 6 := ⟨RX1, TX1, 8, "WheelLand$Reader", rfl, in_X1, by decide, rfl, by decide, Or.inl q148, Or.inl rfl⟩
theorem pa_X1_83_1 : zPA false RX1 83 1 6 (.int) := ⟨RX1, TX1, 8, "WheelLand$Reader", tyX1, rfl, in_X1, by decide, rfl, by decide, tyX1_ok, nmX1, Or.inl q148, Or.inl rfl, rfl, (fun h => by cases h), by decide +kernel⟩
theorem lk_X1_59 : zLV RX1 59 yJ1_length cJ1_length 1 (some .int) 0 := ⟨lw_V q924 q776 q777 q107 q778, by decide +kernel, by decide +kernel, by decide +kernel⟩
theorem lk_X1_63 : zLV RX1 63 yJ1_indexOf_2 cJ1_indexOf_2 3 (some .int) 2 := ⟨lw_V q925 q766 q767 q107 q768, by decide +kernel, by decide +kernel, by decide +kernel⟩
theorem lk_X1_66 : zLV RX1 66 yJ1_charAt cJ1_charAt 2 (some .char) 1 := ⟨lw_V q926 q927 q928 q107 q929, by decide +kernel, by decide +kernel, by decide +kernel⟩
theorem lk_X1_70 : zLV RX1 70 yX1_word cX1_word 6 (some .int) 1 := ⟨lw_V q920 q922 qs23 q96 q923, by decide +kernel, by decide +kernel, by decide +kernel⟩
theorem fa_X1_9_1 : zFA RX1 9 1 0 := ⟨RX1, TX1, 8, "WheelLand$Reader", rfl, in_X1, by decide, rfl, by decide, Or.inl q142, Or.inl rfl⟩
theorem fa_X1_80_1 : zFA RX1 80 1 7 := ⟨RX1, TX1, 8, "WheelLand$Reader", rfl, in_X1, by decide, rfl, by decide, Or.inl q149, Or.inl rfl⟩
theorem fa_X1_15_1 : zFA RX1 15 1 1 := ⟨RX1, TX1, 8, "WheelLand$Reader", rfl, in_X1, by decide, rfl, by decide, Or.inl q143, Or.inl rfl⟩
theorem pa_X1_80_1 : zPA false RX1 80 1 7 (.int) := ⟨RX1, TX1, 8, "WheelLand$Reader", tyX1, rfl, in_X1, by decide, rfl, by decide, tyX1_ok, nmX1, Or.inl q149, Or.inl rfl, rfl, (fun h => by cases h), by decide +kernel⟩
theorem lk_X1_129 : zLS RX1 129 yJ0_min cJ0_min 2 (some .int) 2 := ⟨lw_S q971 q569 q102 q570, by decide +kernel, by decide +kernel, by decide +kernel⟩
theorem lk_X1_118 : zLV RX1 118 yX1_notes cX1_notes 3 (none) 2 := ⟨lw_V q972 q974 qs30 q96 q975, by decide +kernel, by decide +kernel, by decide +kernel⟩
theorem lk_X1_125 : zLV RX1 125 yX1_opens cX1_opens 1 (none) 0 := ⟨lw_V q962 q964 qs28 q96 q965, by decide +kernel, by decide +kernel, by decide +kernel⟩
theorem lk_X1_95 : zLV RX1 95 yX1_sum cX1_sum 2 (none) 0 := ⟨lw_V q946 q948 qs24 q96 q949, by decide +kernel, by decide +kernel, by decide +kernel⟩
theorem lk_X1_101 : zLV RX1 101 yX1_needs cX1_needs 2 (none) 1 := ⟨lw_V q966 q968 qs29 q96 q969, by decide +kernel, by decide +kernel, by decide +kernel⟩
theorem lk_X1_122 : zLV RX1 122 yX1_factor cX1_factor 3 (none) 0 := ⟨lw_V q954 q956 qs26 q96 q957, by decide +kernel, by decide +kernel, by decide +kernel⟩
theorem lk_X1_115 : zLV RX1 115 yX1_product cX1_product 2 (none) 0 := ⟨lw_V q950 q952 qs25 q96 q953, by decide +kernel, by decide +kernel, by decide +kernel⟩
theorem lk_X1_145 : zLV RX1 145 yX1_holds cX1_holds 2 (none) 0 := ⟨lw_V q985 q987 qs33 q96 q988, by decide +kernel, by decide +kernel, by decide +kernel⟩
theorem lk_X1_141 : zLV RX1 141 yX1_isWord cX1_isWord 2 (some .boolean) 1 := ⟨lw_V q990 q992 qs34 q96 q993, by decide +kernel, by decide +kernel, by decide +kernel⟩
theorem lk_X1_136 : zLV RX1 136 yX1_both cX1_both 1 (none) 0 := ⟨lw_V q981 q983 qs32 q96 q984, by decide +kernel, by decide +kernel, by decide +kernel⟩
theorem lk_X1_98 : zLV RX1 98 yX1_either cX1_either 1 (none) 0 := ⟨lw_V q977 q979 qs31 q96 q980, by decide +kernel, by decide +kernel, by decide +kernel⟩
theorem pa_X4_9_4 : zPA true RX4 9 4 2 (.array .int) := ⟨RX4, TX4, 18, "WheelLand$Village", tyX4, rfl, in_X4, by decide, rfl, by decide, tyX4_ok, nmX4, Or.inl q342, Or.inl rfl, rfl, (fun _ => rfl), by decide +kernel⟩
theorem pa_X4_15_4 : zPA true RX4 15 4 3 (.array .int) := ⟨RX4, TX4, 18, "WheelLand$Village", tyX4, rfl, in_X4, by decide, rfl, by decide, tyX4_ok, nmX4, Or.inl q345, Or.inl rfl, rfl, (fun _ => rfl), by decide +kernel⟩
theorem pa_X4_18_4 : zPA false RX4 18 4 8 (.int) := ⟨RX4, TX4, 18, "WheelLand$Village", tyX4, rfl, in_X4, by decide, rfl, by decide, tyX4_ok, nmX4, Or.inl q355, Or.inl rfl, rfl, (fun h => by cases h), by decide +kernel⟩
theorem pa_X4_22_4 : zPA false RX4 22 4 9 (.int) := ⟨RX4, TX4, 18, "WheelLand$Village", tyX4, rfl, in_X4, by decide, rfl, by decide, tyX4_ok, nmX4, Or.inl q357, Or.inl rfl, rfl, (fun h => by cases h), by decide +kernel⟩
theorem pa_X4_25_4 : zPA true RX4 25 4 0 (.int) := ⟨RX4, TX4, 18, "WheelLand$Village", tyX4, rfl, in_X4, by decide, rfl, by decide, tyX4_ok, nmX4, Or.inl q338, Or.inl rfl, rfl, (fun _ => rfl), by decide +kernel⟩
theorem pa_X4_28_4 : zPA true RX4 28 4 1 (.int) := ⟨RX4, TX4, 18, "WheelLand$Village", tyX4, rfl, in_X4, by decide, rfl, by decide, tyX4_ok, nmX4, Or.inl q340, Or.inl rfl, rfl, (fun _ => rfl), by decide +kernel⟩
theorem pa_X4_31_4 : zPA false RX4 31 4 4 (.int) := ⟨RX4, TX4, 18, "WheelLand$Village", tyX4, rfl, in_X4, by decide, rfl, by decide, tyX4_ok, nmX4, Or.inl q347, Or.inl rfl, rfl, (fun h => by cases h), by decide +kernel⟩
theorem fa_X4_9_4 : zFA RX4 9 4 2 := ⟨RX4, TX4, 18, "WheelLand$Village", rfl, in_X4, by decide, rfl, by decide, Or.inl q342, Or.inl rfl⟩
theorem fa_X4_15_4 : zFA RX4 15 4 3 := ⟨RX4, TX4, 18, "WheelLand$Village", rfl, in_X4, by decide, rfl, by decide, Or.inl q345, Or.inl rfl⟩
theorem fa_X4_34_4 : zFA RX4 34 4 5 := ⟨RX4, TX4, 18, "WheelLand$Village", rfl, in_X4, by decide, rfl, by decide, Or.inl q349, Or.inl rfl⟩
theorem fa_X4_37_4 : zFA RX4 37 4 6 := ⟨RX4, TX4, 18, "WheelLand$Village", rfl, in_X4, by decide, rfl, by decide, Or.inl q351, Or.inl rfl⟩
theorem pa_X4_37_4 : zPA false RX4 37 4 6 (.int) := ⟨RX4, TX4, 18, "WheelLand$Village", tyX4, rfl, in_X4, by decide, rfl, by decide, tyX4_ok, nmX4, Or.inl q351, Or.inl rfl, rfl, (fun h => by cases h), by decide +kernel⟩
theorem fa_X4_43_4 : zFA RX4 43 4 12 := ⟨RX4, TX4, 18, "WheelLand$Village", rfl, in_X4, by decide, rfl, by decide, Or.inl q361, Or.inl rfl⟩
theorem fa_X4_18_4 : zFA RX4 18 4 8 := ⟨RX4, TX4, 18, "WheelLand$Village", rfl, in_X4, by decide, rfl, by decide, Or.inl q355, Or.inl rfl⟩
theorem pa_X4_43_4 : zPA false RX4 43 4 12 (.int) := ⟨RX4, TX4, 18, "WheelLand$Village", tyX4, rfl, in_X4, by decide, rfl, by decide, tyX4_ok, nmX4, Or.inl q361, Or.inl rfl, rfl, (fun h => by cases h), by decide +kernel⟩
theorem pa_X4_34_4 : zPA false RX4 34 4 5 (.int) := ⟨RX4, TX4, 18, "WheelLand$Village", tyX4, rfl, in_X4, by decide, rfl, by decide, tyX4_ok, nmX4, Or.inl q349, Or.inl rfl, rfl, (fun h => by cases h), by decide +kernel⟩
theorem fa_X4_40_4 : zFA RX4 40 4 15 := ⟨RX4, TX4, 18, "WheelLand$Village", rfl, in_X4, by decide, rfl, by decide, Or.inl q365, Or.inl rfl⟩
theorem pa_X4_40_4 : zPA false RX4 40 4 15 (.int) := ⟨RX4, TX4, 18, "WheelLand$Village", tyX4, rfl, in_X4, by decide, rfl, by decide, tyX4_ok, nmX4, Or.inl q365, Or.inl rfl, rfl, (fun h => by cases h), by decide +kernel⟩
theorem fa_X4_46_4 : zFA RX4 46 4 7 := ⟨RX4, TX4, 18, "WheelLand$Village", rfl, in_X4, by decide, rfl, by decide, Or.inl q353, Or.inl rfl⟩
theorem pa_X4_46_4 : zPA false RX4 46 4 7 (.int) := ⟨RX4, TX4, 18, "WheelLand$Village", tyX4, rfl, in_X4, by decide, rfl, by decide, tyX4_ok, nmX4, Or.inl q353, Or.inl rfl, rfl, (fun h => by cases h), by decide +kernel⟩
theorem fa_X4_49_4 : zFA RX4 49 4 16 := ⟨RX4, TX4, 18, "WheelLand$Village", rfl, in_X4, by decide, rfl, by decide, Or.inl q367, Or.inl rfl⟩
theorem pa_X4_49_4 : zPA false RX4 49 4 16 (.int) := ⟨RX4, TX4, 18, "WheelLand$Village", tyX4, rfl, in_X4, by decide, rfl, by decide, tyX4_ok, nmX4, Or.inl q367, Or.inl rfl, rfl, (fun h => by cases h), by decide +kernel⟩
theorem fa_X4_22_4 : zFA RX4 22 4 9 := ⟨RX4, TX4, 18, "WheelLand$Village", rfl, in_X4, by decide, rfl, by decide, Or.inl q357, Or.inl rfl⟩
theorem fa_X4_52_4 : zFA RX4 52 4 17 := ⟨RX4, TX4, 18, "WheelLand$Village", rfl, in_X4, by decide, rfl, by decide, Or.inl q369, Or.inl rfl⟩
theorem lk_X4_61 : zLS RX4 61 yJ0_min cJ0_min 2 (some .int) 2 := ⟨lw_S q702 q569 q102 q570, by decide +kernel, by decide +kernel, by decide +kernel⟩
theorem pa_X4_52_4 : zPA false RX4 52 4 17 (.int) := ⟨RX4, TX4, 18, "WheelLand$Village", tyX4, rfl, in_X4, by decide, rfl, by decide, tyX4_ok, nmX4, Or.inl q369, Or.inl rfl, rfl, (fun h => by cases h), by decide +kernel⟩
theorem lk_X4_55 : zLS RX4 55 yJ0_max cJ0_max 2 (some .int) 2 := ⟨lw_S q701 q584 q102 q585, by decide +kernel, by decide +kernel, by decide +kernel⟩
theorem pa_X5_7_5 : zPA false RX5 7 5 7 (.int) := ⟨RX5, TX5, 16, "WheelLand$House", tyX5, rfl, in_X5, by decide, rfl, by decide, tyX5_ok, nmX5, Or.inl q454, Or.inl rfl, rfl, (fun h => by cases h), by decide +kernel⟩
theorem pa_X5_13_5 : zPA true RX5 13 5 0 (.int) := ⟨RX5, TX5, 16, "WheelLand$House", tyX5, rfl, in_X5, by decide, rfl, by decide, tyX5_ok, nmX5, Or.inl q440, Or.inl rfl, rfl, (fun _ => rfl), by decide +kernel⟩
theorem pa_X5_16_5 : zPA true RX5 16 5 3 (.object "WheelLand$Village") := ⟨RX5, TX5, 16, "WheelLand$House", tyX5, rfl, in_X5, by decide, rfl, by decide, tyX5_ok, nmX5, Or.inl q446, Or.inl rfl, rfl, (fun _ => rfl), by decide +kernel⟩
theorem pa_X5_20_5 : zPA false RX5 20 5 4 (.int) := ⟨RX5, TX5, 16, "WheelLand$House", tyX5, rfl, in_X5, by decide, rfl, by decide, tyX5_ok, nmX5, Or.inl q449, Or.inl rfl, rfl, (fun h => by cases h), by decide +kernel⟩
theorem pa_X5_23_5 : zPA false RX5 23 5 5 (.int) := ⟨RX5, TX5, 16, "WheelLand$House", tyX5, rfl, in_X5, by decide, rfl, by decide, tyX5_ok, nmX5, Or.inl q451, Or.inl rfl, rfl, (fun h => by cases h), by decide +kernel⟩
theorem pa_X5_26_5 : zPA true RX5 26 5 1 (.int) := ⟨RX5, TX5, 16, "WheelLand$House", tyX5, rfl, in_X5, by decide, rfl, by decide, tyX5_ok, nmX5, Or.inl q442, Or.inl rfl, rfl, (fun _ => rfl), by decide +kernel⟩
theorem pa_X5_29_5 : zPA true RX5 29 5 2 (.int) := ⟨RX5, TX5, 16, "WheelLand$House", tyX5, rfl, in_X5, by decide, rfl, by decide, tyX5_ok, nmX5, Or.inl q444, Or.inl rfl, rfl, (fun _ => rfl), by decide +kernel⟩
theorem fa_X5_20_5 : zFA RX5 20 5 4 := ⟨RX5, TX5, 16, "WheelLand$House", rfl, in_X5, by decide, rfl, by decide, Or.inl q449, Or.inl rfl⟩
theorem fa_X5_16_5 : zFA RX5 16 5 3 := ⟨RX5, TX5, 16, "WheelLand$House", rfl, in_X5, by decide, rfl, by decide, Or.inl q446, Or.inl rfl⟩
theorem fa_X5_32_4 : zFA RX5 32 4 2 := ⟨RX4, TX4, 18, "WheelLand$Village", rfl, in_X4, by decide, rfl, by decide, Or.inr ⟨"WheelLand", List.mem_of_getElem? (i := 10) rfl⟩, Or.inl rfl⟩
theorem lk_X5_38 : zLN 1 RX5 38 yX0_seasonOf "WheelLand" cX0_seasonOf 1 (some .int) 1 := ⟨lw_meth q564, List.mem_of_getElem? (i := 2) rfl, q95, (fun h => by cases h), (fun _ => q563), (fun h => by cases h), by decide +kernel, by decide +kernel, by decide +kernel⟩
theorem fa_X5_44_4 : zFA RX5 44 4 1 := ⟨RX4, TX4, 18, "WheelLand$Village", rfl, in_X4, by decide, rfl, by decide, Or.inr ⟨"WheelLand", List.mem_of_getElem? (i := 9) rfl⟩, Or.inl rfl⟩
theorem fa_X5_23_5 : zFA RX5 23 5 5 := ⟨RX5, TX5, 16, "WheelLand$House", rfl, in_X5, by decide, rfl, by decide, Or.inl q451, Or.inl rfl⟩
theorem fa_X5_7_5 : zFA RX5 7 5 7 := ⟨RX5, TX5, 16, "WheelLand$House", rfl, in_X5, by decide, rfl, by decide, Or.inl q454, Or.inl rfl⟩
theorem lk_X5_47 : zLS RX5 47 yJ0_max cJ0_max 2 (some .int) 2 := ⟨lw_S q583 q584 q102 q585, by decide +kernel, by decide +kernel, by decide +kernel⟩
theorem fa_X5_29_5 : zFA RX5 29 5 2 := ⟨RX5, TX5, 16, "WheelLand$House", rfl, in_X5, by decide, rfl, by decide, Or.inl q444, Or.inl rfl⟩
theorem pa_X6_7_6 : zPA true RX6 7 6 0 (.int) := ⟨RX6, TX6, 4, "WheelLand$Loom", tyX6, rfl, in_X6, by decide, rfl, by decide, tyX6_ok, nmX6, Or.inl q516, Or.inl rfl, rfl, (fun _ => rfl), by decide +kernel⟩
theorem pa_X6_13_6 : zPA true RX6 13 6 1 (.int) := ⟨RX6, TX6, 4, "WheelLand$Loom", tyX6, rfl, in_X6, by decide, rfl, by decide, tyX6_ok, nmX6, Or.inl q518, Or.inl rfl, rfl, (fun _ => rfl), by decide +kernel⟩
theorem pa_X6_16_6 : zPA true RX6 16 6 2 (.int) := ⟨RX6, TX6, 4, "WheelLand$Loom", tyX6, rfl, in_X6, by decide, rfl, by decide, tyX6_ok, nmX6, Or.inl q520, Or.inl rfl, rfl, (fun _ => rfl), by decide +kernel⟩
theorem pa_X7_7_8 : zPA true RX7 7 8 0 (.object "WheelLand$House") := ⟨RX8, TX8, 7, "WheelLand$Hanks", tyX8, rfl, in_X8, by decide, rfl, by decide, tyX8_ok, nmX8, Or.inl q596, Or.inl rfl, rfl, (fun _ => rfl), by decide +kernel⟩
theorem pa_X7_13_8 : zPA true RX7 13 8 1 (.int) := ⟨RX8, TX8, 7, "WheelLand$Hanks", tyX8, rfl, in_X8, by decide, rfl, by decide, tyX8_ok, nmX8, Or.inl q602, Or.inl rfl, rfl, (fun _ => rfl), by decide +kernel⟩
theorem pa_X7_7_12 : zPA true RX7 7 12 0 (.object "WheelLand$House") := ⟨RX12, TX12, 6, "WheelLand$Hanks", tyX12, rfl, in_X12, by decide, rfl, by decide, tyX12_ok, nmX12, Or.inl q596, Or.inl rfl, rfl, (fun _ => rfl), by decide +kernel⟩
theorem pa_X7_13_12 : zPA true RX7 13 12 1 (.int) := ⟨RX12, TX12, 6, "WheelLand$Hanks", tyX12, rfl, in_X12, by decide, rfl, by decide, tyX12_ok, nmX12, Or.inl q602, Or.inl rfl, rfl, (fun _ => rfl), by decide +kernel⟩
theorem lk_X8_1 : zLI RX8 1 yX7_init cX7_init 3 2 := ⟨lw_meth q577, q103, q575, q576, rfl, by decide +kernel, by decide +kernel, by decide +kernel⟩
theorem pa_X8_7_8 : zPA true RX8 7 8 2 (.int) := ⟨RX8, TX8, 7, "WheelLand$Lot", tyX8, rfl, in_X8, by decide, rfl, by decide, tyX8_ok, nmX8, Or.inl q586, Or.inl rfl, rfl, (fun _ => rfl), by decide +kernel⟩
theorem pa_X8_13_8 : zPA true RX8 13 8 5 (.int) := ⟨RX8, TX8, 7, "WheelLand$Lot", tyX8, rfl, in_X8, by decide, rfl, by decide, tyX8_ok, nmX8, Or.inl q592, Or.inl rfl, rfl, (fun _ => rfl), by decide +kernel⟩
theorem fa_X8_16_5 : zFA RX8 16 5 7 := ⟨RX5, TX5, 16, "WheelLand$House", rfl, in_X5, by decide, rfl, by decide, Or.inr ⟨"WheelLand", List.mem_of_getElem? (i := 34) rfl⟩, Or.inl rfl⟩
theorem pa_X8_21_8 : zPA true RX8 21 8 3 (.int) := ⟨RX8, TX8, 7, "WheelLand$Lot", tyX8, rfl, in_X8, by decide, rfl, by decide, tyX8_ok, nmX8, Or.inl q588, Or.inl rfl, rfl, (fun _ => rfl), by decide +kernel⟩
theorem lk_X8_24 : zLV RX8 24 yX5_strength cX5_strength 1 (some .int) 0 := ⟨lw_V q579 q580 q581 q100 q582, by decide +kernel, by decide +kernel, by decide +kernel⟩
theorem pa_X8_28_8 : zPA true RX8 28 8 4 (.int) := ⟨RX8, TX8, 7, "WheelLand$Lot", tyX8, rfl, in_X8, by decide, rfl, by decide, tyX8_ok, nmX8, Or.inl q590, Or.inl rfl, rfl, (fun _ => rfl), by decide +kernel⟩
theorem pa_X8_30_8 : zPA false RX8 30 8 6 (.int) := ⟨RX8, TX8, 7, "WheelLand$Lot", tyX8, rfl, in_X8, by decide, rfl, by decide, tyX8_ok, nmX8, Or.inl q594, Or.inl rfl, rfl, (fun h => by cases h), by decide +kernel⟩
theorem pa_X9_7_9 : zPA true RX9 7 9 0 (.array .byte) := ⟨RX9, TX9, 2, "WheelLand$Steps", tyX9, rfl, in_X9, by decide, rfl, by decide, tyX9_ok, nmX9, Or.inl q1002, Or.inl rfl, rfl, (fun _ => rfl), by decide +kernel⟩
theorem pa_X9_13_9 : zPA true RX9 13 9 1 (.array .int) := ⟨RX9, TX9, 2, "WheelLand$Steps", tyX9, rfl, in_X9, by decide, rfl, by decide, tyX9_ok, nmX9, Or.inl q1004, Or.inl rfl, rfl, (fun _ => rfl), by decide +kernel⟩
theorem pa_X10_11_10 : zPA true RX10 11 10 0 (.array (.object "WheelLand$Steps")) := ⟨RX10, TX10, 1, "WheelLand$Sheet", tyX10, rfl, in_X10, by decide, rfl, by decide, tyX10_ok, nmX10, Or.inl q744, Or.inl rfl, rfl, (fun _ => rfl), by decide +kernel⟩
theorem lk_X12_1 : zLI RX12 1 yX7_init cX7_init 3 2 := ⟨lw_meth q577, q103, q1066, q576, rfl, by decide +kernel, by decide +kernel, by decide +kernel⟩
theorem pa_X12_7_12 : zPA true RX12 7 12 2 (.object "WheelLand$Lot") := ⟨RX12, TX12, 6, "WheelLand$Cloth", tyX12, rfl, in_X12, by decide, rfl, by decide, tyX12_ok, nmX12, Or.inl q1067, Or.inl rfl, rfl, (fun _ => rfl), by decide +kernel⟩
theorem pa_X12_13_12 : zPA true RX12 13 12 4 (.boolean) := ⟨RX12, TX12, 6, "WheelLand$Cloth", tyX12, rfl, in_X12, by decide, rfl, by decide, tyX12_ok, nmX12, Or.inl q1071, Or.inl rfl, rfl, (fun _ => rfl), by decide +kernel⟩
theorem pa_X12_17_12 : zPA true RX12 17 12 3 (.int) := ⟨RX12, TX12, 6, "WheelLand$Cloth", tyX12, rfl, in_X12, by decide, rfl, by decide, tyX12_ok, nmX12, Or.inl q1069, Or.inl rfl, rfl, (fun _ => rfl), by decide +kernel⟩
theorem pa_X2_3_2 : zPA true RX2 3 2 10 (.object "WheelLand") := ⟨RX2, TX2, 11, "WheelLand$Hands", tyX2, rfl, in_X2, by decide, rfl, by decide, tyX2_ok, nmX2, Or.inl q194, Or.inl rfl, rfl, (fun _ => rfl), by decide +kernel⟩
theorem pa_X2_17_2 : zPA true RX2 17 2 0 (.array (.object "WheelLand$Lot")) := ⟨RX2, TX2, 11, "WheelLand$Hands", tyX2, rfl, in_X2, by decide, rfl, by decide, tyX2_ok, nmX2, Or.inl q177, Or.inl rfl, rfl, (fun _ => rfl), by decide +kernel⟩
theorem pa_X2_23_2 : zPA true RX2 23 2 1 (.array (.object "WheelLand$House")) := ⟨RX2, TX2, 11, "WheelLand$Hands", tyX2, rfl, in_X2, by decide, rfl, by decide, tyX2_ok, nmX2, Or.inl q179, Or.inl rfl, rfl, (fun _ => rfl), by decide +kernel⟩
theorem pa_X2_27_2 : zPA true RX2 27 2 2 (.array .int) := ⟨RX2, TX2, 11, "WheelLand$Hands", tyX2, rfl, in_X2, by decide, rfl, by decide, tyX2_ok, nmX2, Or.inl q181, Or.inl rfl, rfl, (fun _ => rfl), by decide +kernel⟩
theorem pa_X2_31_2 : zPA true RX2 31 2 3 (.array .int) := ⟨RX2, TX2, 11, "WheelLand$Hands", tyX2, rfl, in_X2, by decide, rfl, by decide, tyX2_ok, nmX2, Or.inl q182, Or.inl rfl, rfl, (fun _ => rfl), by decide +kernel⟩
theorem pa_X2_34_2 : zPA true RX2 34 2 4 (.array .int) := ⟨RX2, TX2, 11, "WheelLand$Hands", tyX2, rfl, in_X2, by decide, rfl, by decide, tyX2_ok, nmX2, Or.inl q184, Or.inl rfl, rfl, (fun _ => rfl), by decide +kernel⟩
theorem fa_X0_120_0 : zFA RX0 120 0 16 := ⟨RX0, TX0, 35, "WheelLand", rfl, in_X0, by decide, rfl, by decide, Or.inl q235, Or.inl rfl⟩
theorem fa_X0_30_0 : zFA RX0 30 0 1 := ⟨RX0, TX0, 35, "WheelLand", rfl, in_X0, by decide, rfl, by decide, Or.inl q220, Or.inl rfl⟩
theorem pa_X2_37_2 : zPA false RX2 37 2 6 (.int) := ⟨RX2, TX2, 11, "WheelLand$Hands", tyX2, rfl, in_X2, by decide, rfl, by decide, tyX2_ok, nmX2, Or.inl q187, Or.inl rfl, rfl, (fun h => by cases h), by decide +kernel⟩
theorem lk_X2_44 : zLN 0 RX2 44 yX0_findHouse "WheelLand" cX0_findHouse 2 (some (.object "WheelLand$House")) 1 := ⟨lw_meth q506, List.mem_of_getElem? (i := 5) rfl, q95, (fun _ => ⟨q505, qs4⟩), (fun h => by cases h), (fun h => by cases h), by decide +kernel, by decide +kernel, by decide +kernel⟩
theorem fa_X2_48_0 : zFA RX2 48 0 1 := ⟨RX0, TX0, 35, "WheelLand", rfl, in_X0, by decide, rfl, by decide, Or.inr ⟨"WheelLand", List.mem_of_getElem? (i := 7) rfl⟩, Or.inl rfl⟩
theorem pa_X1_9_1 : zPA true RX1 9 1 0 (.array .byte) := ⟨RX1, TX1, 8, "WheelLand$Reader", tyX1, rfl, in_X1, by decide, rfl, by decide, tyX1_ok, nmX1, Or.inl q142, Or.inl rfl, rfl, (fun _ => rfl), by decide +kernel⟩
theorem pa_X1_15_1 : zPA true RX1 15 1 1 (.array .int) := ⟨RX1, TX1, 8, "WheelLand$Reader", tyX1, rfl, in_X1, by decide, rfl, by decide, tyX1_ok, nmX1, Or.inl q143, Or.inl rfl, rfl, (fun _ => rfl), by decide +kernel⟩
theorem pa_X1_26_1 : zPA false RX1 26 1 2 (.array .byte) := ⟨RX1, TX1, 8, "WheelLand$Reader", tyX1, rfl, in_X1, by decide, rfl, by decide, tyX1_ok, nmX1, Or.inl q144, Or.inl rfl, rfl, (fun h => by cases h), by decide +kernel⟩
theorem pa_X1_23_1 : zPA false RX1 23 1 3 (.int) := ⟨RX1, TX1, 8, "WheelLand$Reader", tyX1, rfl, in_X1, by decide, rfl, by decide, tyX1_ok, nmX1, Or.inl q145, Or.inl rfl, rfl, (fun h => by cases h), by decide +kernel⟩
theorem na_X1_86 : zNA RX1 86 10 := ⟨RX10, TX10, 1, tyX10, rfl, in_X10, tyX10_ok, q736, q737, q106, rfl, by decide, (by intro j hj; rcases (show j = 0 by omega) with rfl; rfl)⟩
theorem lk_X1_88 : zLN 2 RX1 88 yX10_init "WheelLand" cX10_init 1 (none) 0 := ⟨lw_meth q740, List.mem_of_getElem? (i := 4) rfl, q106, (fun h => by cases h), (fun h => by cases h), (fun _ => ⟨rfl, q739⟩), by decide +kernel, by decide +kernel, by decide +kernel⟩
theorem fa_X1_91_10 : zFA RX1 91 10 0 := ⟨RX10, TX10, 1, "WheelLand$Sheet", rfl, in_X10, by decide, rfl, by decide, Or.inr ⟨"WheelLand", List.mem_of_getElem? (i := 55) rfl⟩, Or.inl rfl⟩
theorem na_X1_104 : zNA RX1 104 9 := ⟨RX9, TX9, 2, tyX9, rfl, in_X9, tyX9_ok, q996, q997, q105, rfl, by decide, (by intro j hj; rcases (show j = 0 ∨ j = 1 by omega) with rfl | rfl <;> rfl)⟩
theorem lk_X1_106 : zLI RX1 106 yX9_init cX9_init 2 1 := ⟨lw_meth q1000, q105, q998, q999, rfl, by decide +kernel, by decide +kernel, by decide +kernel⟩
theorem fa_X1_107_9 : zFA RX1 107 9 0 := ⟨RX9, TX9, 2, "WheelLand$Steps", rfl, in_X9, by decide, rfl, by decide, Or.inr ⟨"WheelLand", List.mem_of_getElem? (i := 58) rfl⟩, Or.inl rfl⟩
theorem fa_X1_114_9 : zFA RX1 114 9 1 := ⟨RX9, TX9, 2, "WheelLand$Steps", rfl, in_X9, by decide, rfl, by decide, Or.inr ⟨"WheelLand", List.mem_of_getElem? (i := 59) rfl⟩, Or.inl rfl⟩
theorem pa_X0_24_0 : zPA true RX0 24 0 0 (.array (.object "WheelLand$Village")) := ⟨RX0, TX0, 35, "WheelLand", tyX0, rfl, in_X0, by decide, rfl, by decide, tyX0_ok, nmX0, Or.inl q218, Or.inl rfl, rfl, (fun _ => rfl), by decide +kernel⟩
theorem pa_X0_30_0 : zPA true RX0 30 0 1 (.array (.object "WheelLand$House")) := ⟨RX0, TX0, 35, "WheelLand", tyX0, rfl, in_X0, by decide, rfl, by decide, tyX0_ok, nmX0, Or.inl q220, Or.inl rfl, rfl, (fun _ => rfl), by decide +kernel⟩
theorem pa_X0_36_0 : zPA true RX0 36 0 2 (.array (.object "WheelLand$Lot")) := ⟨RX0, TX0, 35, "WheelLand", tyX0, rfl, in_X0, by decide, rfl, by decide, tyX0_ok, nmX0, Or.inl q221, Or.inl rfl, rfl, (fun _ => rfl), by decide +kernel⟩
theorem pa_X0_42_0 : zPA true RX0 42 0 3 (.array (.object "WheelLand$Cloth")) := ⟨RX0, TX0, 35, "WheelLand", tyX0, rfl, in_X0, by decide, rfl, by decide, tyX0_ok, nmX0, Or.inl q222, Or.inl rfl, rfl, (fun _ => rfl), by decide +kernel⟩
theorem pa_X0_48_0 : zPA true RX0 48 0 4 (.array (.object "WheelLand$Sheet")) := ⟨RX0, TX0, 35, "WheelLand", tyX0, rfl, in_X0, by decide, rfl, by decide, tyX0_ok, nmX0, Or.inl q223, Or.inl rfl, rfl, (fun _ => rfl), by decide +kernel⟩
theorem pa_X0_52_0 : zPA true RX0 52 0 5 (.array .int) := ⟨RX0, TX0, 35, "WheelLand", tyX0, rfl, in_X0, by decide, rfl, by decide, tyX0_ok, nmX0, Or.inl q224, Or.inl rfl, rfl, (fun _ => rfl), by decide +kernel⟩
theorem pa_X0_56_0 : zPA true RX0 56 0 6 (.array .int) := ⟨RX0, TX0, 35, "WheelLand", tyX0, rfl, in_X0, by decide, rfl, by decide, tyX0_ok, nmX0, Or.inl q225, Or.inl rfl, rfl, (fun _ => rfl), by decide +kernel⟩
theorem pa_X0_59_0 : zPA true RX0 59 0 7 (.array .int) := ⟨RX0, TX0, 35, "WheelLand", tyX0, rfl, in_X0, by decide, rfl, by decide, tyX0_ok, nmX0, Or.inl q226, Or.inl rfl, rfl, (fun _ => rfl), by decide +kernel⟩
theorem pa_X0_62_0 : zPA true RX0 62 0 8 (.array .int) := ⟨RX0, TX0, 35, "WheelLand", tyX0, rfl, in_X0, by decide, rfl, by decide, tyX0_ok, nmX0, Or.inl q227, Or.inl rfl, rfl, (fun _ => rfl), by decide +kernel⟩
theorem pa_X0_65_0 : zPA true RX0 65 0 9 (.array .int) := ⟨RX0, TX0, 35, "WheelLand", tyX0, rfl, in_X0, by decide, rfl, by decide, tyX0_ok, nmX0, Or.inl q228, Or.inl rfl, rfl, (fun _ => rfl), by decide +kernel⟩
theorem pa_X0_68_0 : zPA true RX0 68 0 10 (.array .int) := ⟨RX0, TX0, 35, "WheelLand", tyX0, rfl, in_X0, by decide, rfl, by decide, tyX0_ok, nmX0, Or.inl q229, Or.inl rfl, rfl, (fun _ => rfl), by decide +kernel⟩
theorem pa_X0_71_0 : zPA true RX0 71 0 11 (.array .int) := ⟨RX0, TX0, 35, "WheelLand", tyX0, rfl, in_X0, by decide, rfl, by decide, tyX0_ok, nmX0, Or.inl q230, Or.inl rfl, rfl, (fun _ => rfl), by decide +kernel⟩
theorem pa_X0_74_0 : zPA true RX0 74 0 12 (.array .byte) := ⟨RX0, TX0, 35, "WheelLand", tyX0, rfl, in_X0, by decide, rfl, by decide, tyX0_ok, nmX0, Or.inl q231, Or.inl rfl, rfl, (fun _ => rfl), by decide +kernel⟩
theorem na_X0_78 : zNA RX0 78 1 := ⟨RX1, TX1, 8, tyX1, rfl, in_X1, tyX1_ok, q136, q137, q96, rfl, by decide, (by intro j hj; rcases (show j = 0 ∨ j = 1 ∨ j = 2 ∨ j = 3 ∨ j = 4 ∨ j = 5 ∨ j = 6 ∨ j = 7 by omega) with rfl | rfl | rfl | rfl | rfl | rfl | rfl | rfl <;> rfl)⟩
theorem lk_X0_80 : zLN 2 RX0 80 yX1_init "WheelLand" cX1_init 1 (none) 0 := ⟨lw_meth q140, List.mem_of_getElem? (i := 0) rfl, q96, (fun h => by cases h), (fun h => by cases h), (fun _ => ⟨rfl, q139⟩), by decide +kernel, by decide +kernel, by decide +kernel⟩
theorem pa_X0_81_0 : zPA true RX0 81 0 13 (.object "WheelLand$Reader") := ⟨RX0, TX0, 35, "WheelLand", tyX0, rfl, in_X0, by decide, rfl, by decide, tyX0_ok, nmX0, Or.inl q232, Or.inl rfl, rfl, (fun _ => rfl), by decide +kernel⟩
theorem na_X0_85 : zNA RX0 85 2 := ⟨RX2, TX2, 11, tyX2, rfl, in_X2, tyX2_ok, q169, q170, q97, rfl, by decide, (by intro j hj; rcases (show j = 0 ∨ j = 1 ∨ j = 2 ∨ j = 3 ∨ j = 4 ∨ j = 5 ∨ j = 6 ∨ j = 7 ∨ j = 8 ∨ j = 9 ∨ j = 10 by omega) with rfl | rfl | rfl | rfl | rfl | rfl | rfl | rfl | rfl | rfl | rfl <;> rfl)⟩
theorem lk_X0_87 : zLN 2 RX0 87 yX2_init "WheelLand" cX2_init 2 (none) 1 := ⟨lw_meth q173, List.mem_of_getElem? (i := 1) rfl, q97, (fun h => by cases h), (fun h => by cases h), (fun _ => ⟨rfl, q172⟩), by decide +kernel, by decide +kernel, by decide +kernel⟩
theorem pa_X0_90_0 : zPA true RX0 90 0 27 (.object "WheelLand$Hands") := ⟨RX0, TX0, 35, "WheelLand", tyX0, rfl, in_X0, by decide, rfl, by decide, tyX0_ok, nmX0, Or.inl q246, Or.inl rfl, rfl, (fun _ => rfl), by decide +kernel⟩
theorem pa_X0_94_0 : zPA true RX0 94 0 28 (.array .int) := ⟨RX0, TX0, 35, "WheelLand", tyX0, rfl, in_X0, by decide, rfl, by decide, tyX0_ok, nmX0, Or.inl q247, Or.inl rfl, rfl, (fun _ => rfl), by decide +kernel⟩
theorem pa_X0_97_0 : zPA true RX0 97 0 29 (.array .int) := ⟨RX0, TX0, 35, "WheelLand", tyX0, rfl, in_X0, by decide, rfl, by decide, tyX0_ok, nmX0, Or.inl q248, Or.inl rfl, rfl, (fun _ => rfl), by decide +kernel⟩
theorem pa_X0_100_0 : zPA true RX0 100 0 30 (.array .int) := ⟨RX0, TX0, 35, "WheelLand", tyX0, rfl, in_X0, by decide, rfl, by decide, tyX0_ok, nmX0, Or.inl q249, Or.inl rfl, rfl, (fun _ => rfl), by decide +kernel⟩
theorem pa_X0_103_0 : zPA true RX0 103 0 31 (.array .int) := ⟨RX0, TX0, 35, "WheelLand", tyX0, rfl, in_X0, by decide, rfl, by decide, tyX0_ok, nmX0, Or.inl q250, Or.inl rfl, rfl, (fun _ => rfl), by decide +kernel⟩
theorem pa_X0_106_0 : zPA true RX0 106 0 32 (.array .int) := ⟨RX0, TX0, 35, "WheelLand", tyX0, rfl, in_X0, by decide, rfl, by decide, tyX0_ok, nmX0, Or.inl q251, Or.inl rfl, rfl, (fun _ => rfl), by decide +kernel⟩
theorem pa_X0_109_0 : zPA true RX0 109 0 33 (.array .int) := ⟨RX0, TX0, 35, "WheelLand", tyX0, rfl, in_X0, by decide, rfl, by decide, tyX0_ok, nmX0, Or.inl q252, Or.inl rfl, rfl, (fun _ => rfl), by decide +kernel⟩
theorem fa_X0_59_0 : zFA RX0 59 0 7 := ⟨RX0, TX0, 35, "WheelLand", rfl, in_X0, by decide, rfl, by decide, Or.inl q226, Or.inl rfl⟩
theorem lk_X0_140 : zLV RX0 140 yX0_leads cX0_leads 7 (none) 3 := ⟨lw_V q411 q413 qs1 q95 q414, by decide +kernel, by decide +kernel, by decide +kernel⟩
theorem fa_X0_112_0 : zFA RX0 112 0 15 := ⟨RX0, TX0, 35, "WheelLand", rfl, in_X0, by decide, rfl, by decide, Or.inl q234, Or.inl rfl⟩
theorem fa_X0_24_0 : zFA RX0 24 0 0 := ⟨RX0, TX0, 35, "WheelLand", rfl, in_X0, by decide, rfl, by decide, Or.inl q218, Or.inl rfl⟩
theorem na_X0_22 : zNA RX0 22 4 := ⟨RX4, TX4, 18, tyX4, rfl, in_X4, tyX4_ok, q126, q333, q99, rfl, by decide, (by intro j hj; rcases (show j = 0 ∨ j = 1 ∨ j = 2 ∨ j = 3 ∨ j = 4 ∨ j = 5 ∨ j = 6 ∨ j = 7 ∨ j = 8 ∨ j = 9 ∨ j = 10 ∨ j = 11 ∨ j = 12 ∨ j = 13 ∨ j = 14 ∨ j = 15 ∨ j = 16 ∨ j = 17 by omega) with rfl | rfl | rfl | rfl | rfl | rfl | rfl | rfl | rfl | rfl | rfl | rfl | rfl | rfl | rfl | rfl | rfl | rfl <;> rfl)⟩
theorem lk_X0_130 : zLI RX0 130 yX4_init cX4_init 7 4 := ⟨lw_meth q336, q99, q334, q335, rfl, by decide +kernel, by decide +kernel, by decide +kernel⟩
theorem pa_X0_112_0 : zPA false RX0 112 0 15 (.int) := ⟨RX0, TX0, 35, "WheelLand", tyX0, rfl, in_X0, by decide, rfl, by decide, tyX0_ok, nmX0, Or.inl q234, Or.inl rfl, rfl, (fun h => by cases h), by decide +kernel⟩
theorem lk_X0_133 : zLV RX0 133 yX0_ways cX0_ways 4 (none) 0 := ⟨lw_V q407 q409 qs0 q95 q410, by decide +kernel, by decide +kernel, by decide +kernel⟩
theorem lk_X0_136 : zLV RX0 136 yX0_findVillage cX0_findVillage 2 (some (.object "WheelLand$Village")) 1 := ⟨lw_V q419 q421 qs2 q95 q422, by decide +kernel, by decide +kernel, by decide +kernel⟩
theorem na_X0_28 : zNA RX0 28 5 := ⟨RX5, TX5, 16, tyX5, rfl, in_X5, tyX5_ok, q128, q435, q100, rfl, by decide, (by intro j hj; rcases (show j = 0 ∨ j = 1 ∨ j = 2 ∨ j = 3 ∨ j = 4 ∨ j = 5 ∨ j = 6 ∨ j = 7 ∨ j = 8 ∨ j = 9 ∨ j = 10 ∨ j = 11 ∨ j = 12 ∨ j = 13 ∨ j = 14 ∨ j = 15 by omega) with rfl | rfl | rfl | rfl | rfl | rfl | rfl | rfl | rfl | rfl | rfl | rfl | rfl | rfl | rfl | rfl <;> rfl)⟩
theorem lk_X0_154 : zLI RX0 154 yX5_init cX5_init 4 3 := ⟨lw_meth q438, q100, q436, q437, rfl, by decide +kernel, by decide +kernel, by decide +kernel⟩
theorem pa_X0_120_0 : zPA false RX0 120 0 16 (.int) := ⟨RX0, TX0, 35, "WheelLand", tyX0, rfl, in_X0, by decide, rfl, by decide, tyX0_ok, nmX0, Or.inl q235, Or.inl rfl, rfl, (fun h => by cases h), by decide +kernel⟩
theorem lk_X0_157 : zLV RX0 157 yX0_findHouse cX0_findHouse 2 (some (.object "WheelLand$House")) 1 := ⟨lw_V q503 q505 qs4 q95 q506, by decide +kernel, by decide +kernel, by decide +kernel⟩
theorem lk_X0_165 : zLS RX0 165 yX0_isCount cX0_isCount 1 (some .boolean) 1 := ⟨lw_S q507 q508 q95 q509, by decide +kernel, by decide +kernel, by decide +kernel⟩
theorem na_X0_169 : zNA RX0 169 6 := ⟨RX6, TX6, 4, tyX6, rfl, in_X6, tyX6_ok, q510, q511, q101, rfl, by decide, (by intro j hj; rcases (show j = 0 ∨ j = 1 ∨ j = 2 ∨ j = 3 by omega) with rfl | rfl | rfl | rfl <;> rfl)⟩
theorem lk_X0_171 : zLI RX0 171 yX6_init cX6_init 4 3 := ⟨lw_meth q514, q101, q512, q513, rfl, by decide +kernel, by decide +kernel, by decide +kernel⟩
theorem pa_X0_161_5 : zPA false RX0 161 5 15 (.object "WheelLand$Loom") := ⟨RX5, TX5, 16, "WheelLand$House", tyX5, rfl, in_X5, by decide, rfl, by decide, tyX5_ok, nmX5, Or.inr ⟨rfl, "WheelLand", List.mem_of_getElem? (i := 44) rfl⟩, Or.inl rfl, rfl, (fun h => by cases h), by decide +kernel⟩
theorem pa_X0_173_5 : zPA false RX0 173 5 7 (.int) := ⟨RX5, TX5, 16, "WheelLand$House", tyX5, rfl, in_X5, by decide, rfl, by decide, tyX5_ok, nmX5, Or.inr ⟨rfl, "WheelLand", List.mem_of_getElem? (i := 35) rfl⟩, Or.inl rfl, rfl, (fun h => by cases h), by decide +kernel⟩
theorem fa_X0_177_5 : zFA RX0 177 5 6 := ⟨RX5, TX5, 16, "WheelLand$House", rfl, in_X5, by decide, rfl, by decide, Or.inr ⟨"WheelLand", List.mem_of_getElem? (i := 33) rfl⟩, Or.inl rfl⟩
theorem pa_X0_177_5 : zPA false RX0 177 5 6 (.int) := ⟨RX5, TX5, 16, "WheelLand$House", tyX5, rfl, in_X5, by decide, rfl, by decide, tyX5_ok, nmX5, Or.inr ⟨rfl, "WheelLand", List.mem_of_getElem? (i := 33) rfl⟩, Or.inl rfl, rfl, (fun h => by cases h), by decide +kernel⟩
theorem fa_X0_180_4 : zFA RX0 180 4 4 := ⟨RX4, TX4, 18, "WheelLand$Village", rfl, in_X4, by decide, rfl, by decide, Or.inr ⟨"WheelLand", List.mem_of_getElem? (i := 13) rfl⟩, Or.inl rfl⟩
theorem pa_X0_180_4 : zPA false RX0 180 4 4 (.int) := ⟨RX4, TX4, 18, "WheelLand$Village", tyX4, rfl, in_X4, by decide, rfl, by decide, tyX4_ok, nmX4, Or.inr ⟨rfl, "WheelLand", List.mem_of_getElem? (i := 13) rfl⟩, Or.inl rfl, rfl, (fun h => by cases h), by decide +kernel⟩
theorem lk_X0_257 : zLS RX0 257 yJ0_min cJ0_min 2 (some .int) 2 := ⟨lw_S q568 q569 q102 q570, by decide +kernel, by decide +kernel, by decide +kernel⟩
theorem lk_X0_230 : zLV RX0 230 yX5_hours cX5_hours 2 (some .int) 1 := ⟨lw_V q558 q559 q560 q100 q561, by decide +kernel, by decide +kernel, by decide +kernel⟩
theorem fa_X0_234_5 : zFA RX0 234 5 14 := ⟨RX5, TX5, 16, "WheelLand$House", rfl, in_X5, by decide, rfl, by decide, Or.inr ⟨"WheelLand", List.mem_of_getElem? (i := 42) rfl⟩, Or.inl rfl⟩
theorem pa_X0_234_5 : zPA false RX0 234 5 14 (.int) := ⟨RX5, TX5, 16, "WheelLand$House", tyX5, rfl, in_X5, by decide, rfl, by decide, tyX5_ok, nmX5, Or.inr ⟨rfl, "WheelLand", List.mem_of_getElem? (i := 42) rfl⟩, Or.inl rfl, rfl, (fun h => by cases h), by decide +kernel⟩
theorem fa_X0_173_5 : zFA RX0 173 5 7 := ⟨RX5, TX5, 16, "WheelLand$House", rfl, in_X5, by decide, rfl, by decide, Or.inr ⟨"WheelLand", List.mem_of_getElem? (i := 35) rfl⟩, Or.inl rfl⟩
theorem lk_X0_244 : zLS RX0 244 yX0_hanksOf cX0_hanksOf 4 (some .int) 4 := ⟨lw_S q565 q566 q95 q567, by decide +kernel, by decide +kernel, by decide +kernel⟩
theorem fa_X0_123_0 : zFA RX0 123 0 17 := ⟨RX0, TX0, 35, "WheelLand", rfl, in_X0, by decide, rfl, by decide, Or.inl q236, Or.inl rfl⟩
theorem fa_X0_36_0 : zFA RX0 36 0 2 := ⟨RX0, TX0, 35, "WheelLand", rfl, in_X0, by decide, rfl, by decide, Or.inl q221, Or.inl rfl⟩
theorem na_X0_34 : zNA RX0 34 8 := ⟨RX8, TX8, 7, tyX8, rfl, in_X8, tyX8_ok, q130, q571, q104, rfl, by decide, (by intro j hj; rcases (show j = 0 ∨ j = 1 ∨ j = 2 ∨ j = 3 ∨ j = 4 ∨ j = 5 ∨ j = 6 by omega) with rfl | rfl | rfl | rfl | rfl | rfl | rfl <;> rfl)⟩
theorem lk_X0_248 : zLI RX0 248 yX8_init cX8_init 5 4 := ⟨lw_meth q574, q104, q572, q573, rfl, by decide +kernel, by decide +kernel, by decide +kernel⟩
theorem pa_X0_123_0 : zPA false RX0 123 0 17 (.int) := ⟨RX0, TX0, 35, "WheelLand", tyX0, rfl, in_X0, by decide, rfl, by decide, tyX0_ok, nmX0, Or.inl q236, Or.inl rfl, rfl, (fun h => by cases h), by decide +kernel⟩
theorem lk_X0_251 : zLS RX0 251 yX0_begun cX0_begun 2 (some .int) 2 := ⟨lw_S q622 q623 q95 q624, by decide +kernel, by decide +kernel, by decide +kernel⟩
theorem fa_X0_186_0 : zFA RX0 186 0 26 := ⟨RX0, TX0, 35, "WheelLand", rfl, in_X0, by decide, rfl, by decide, Or.inl q245, Or.inl rfl⟩
theorem pa_X0_186_0 : zPA false RX0 186 0 26 (.int) := ⟨RX0, TX0, 35, "WheelLand", tyX0, rfl, in_X0, by decide, rfl, by decide, tyX0_ok, nmX0, Or.inl q245, Or.inl rfl, rfl, (fun h => by cases h), by decide +kernel⟩
theorem fa_X0_254_0 : zFA RX0 254 0 25 := ⟨RX0, TX0, 35, "WheelLand", rfl, in_X0, by decide, rfl, by decide, Or.inl q244, Or.inl rfl⟩
theorem pa_X0_254_0 : zPA false RX0 254 0 25 (.int) := ⟨RX0, TX0, 35, "WheelLand", tyX0, rfl, in_X0, by decide, rfl, by decide, tyX0_ok, nmX0, Or.inl q244, Or.inl rfl, rfl, (fun h => by cases h), by decide +kernel⟩
theorem fa_X0_224_4 : zFA RX0 224 4 9 := ⟨RX4, TX4, 18, "WheelLand$Village", rfl, in_X4, by decide, rfl, by decide, Or.inr ⟨"WheelLand", List.mem_of_getElem? (i := 18) rfl⟩, Or.inl rfl⟩
theorem lk_X0_212 : zLS RX0 212 yJ0_max cJ0_max 2 (some .int) 2 := ⟨lw_S q672 q584 q102 q585, by decide +kernel, by decide +kernel, by decide +kernel⟩
theorem lk_X0_266 : zLV RX0 266 yX0_dutyAt cX0_dutyAt 2 (some .int) 1 := ⟨lw_V q637 q639 qs9 q95 q640, by decide +kernel, by decide +kernel, by decide +kernel⟩
theorem lk_X0_270 : zLV RX0 270 yX4_hasHand cX4_hasHand 1 (some .boolean) 0 := ⟨lw_V q673 q674 q675 q99 q676, by decide +kernel, by decide +kernel, by decide +kernel⟩
theorem fa_X0_274_4 : zFA RX0 274 4 8 := ⟨RX4, TX4, 18, "WheelLand$Village", rfl, in_X4, by decide, rfl, by decide, Or.inr ⟨"WheelLand", List.mem_of_getElem? (i := 17) rfl⟩, Or.inl rfl⟩
theorem fa_X0_277_4 : zFA RX0 277 4 7 := ⟨RX4, TX4, 18, "WheelLand$Village", rfl, in_X4, by decide, rfl, by decide, Or.inr ⟨"WheelLand", List.mem_of_getElem? (i := 16) rfl⟩, Or.inl rfl⟩
theorem fa_X0_280_4 : zFA RX0 280 4 10 := ⟨RX4, TX4, 18, "WheelLand$Village", rfl, in_X4, by decide, rfl, by decide, Or.inr ⟨"WheelLand", List.mem_of_getElem? (i := 19) rfl⟩, Or.inl rfl⟩
theorem lk_X0_283 : zLV RX0 283 yX0_choice cX0_choice 7 (some .int) 1 := ⟨lw_V q633 q635 qs8 q95 q636, by decide +kernel, by decide +kernel, by decide +kernel⟩
theorem fa_X0_287_5 : zFA RX0 287 5 8 := ⟨RX5, TX5, 16, "WheelLand$House", rfl, in_X5, by decide, rfl, by decide, Or.inr ⟨"WheelLand", List.mem_of_getElem? (i := 36) rfl⟩, Or.inl rfl⟩
theorem pa_X0_287_5 : zPA false RX0 287 5 8 (.int) := ⟨RX5, TX5, 16, "WheelLand$House", tyX5, rfl, in_X5, by decide, rfl, by decide, tyX5_ok, nmX5, Or.inr ⟨rfl, "WheelLand", List.mem_of_getElem? (i := 36) rfl⟩, Or.inl rfl, rfl, (fun h => by cases h), by decide +kernel⟩
theorem fa_X0_290_5 : zFA RX0 290 5 9 := ⟨RX5, TX5, 16, "WheelLand$House", rfl, in_X5, by decide, rfl, by decide, Or.inr ⟨"WheelLand", List.mem_of_getElem? (i := 37) rfl⟩, Or.inl rfl⟩
theorem pa_X0_290_5 : zPA false RX0 290 5 9 (.int) := ⟨RX5, TX5, 16, "WheelLand$House", tyX5, rfl, in_X5, by decide, rfl, by decide, tyX5_ok, nmX5, Or.inr ⟨rfl, "WheelLand", List.mem_of_getElem? (i := 37) rfl⟩, Or.inl rfl, rfl, (fun h => by cases h), by decide +kernel⟩
theorem lk_X0_293 : zLV RX0 293 yX4_sellsHand cX4_sellsHand 1 (none) 0 := ⟨lw_V q677 q678 q679 q99 q680, by decide +kernel, by decide +kernel, by decide +kernel⟩
theorem fa_X0_296_0 : zFA RX0 296 0 22 := ⟨RX0, TX0, 35, "WheelLand", rfl, in_X0, by decide, rfl, by decide, Or.inl q241, Or.inl rfl⟩
theorem pa_X0_296_0 : zPA false RX0 296 0 22 (.int) := ⟨RX0, TX0, 35, "WheelLand", tyX0, rfl, in_X0, by decide, rfl, by decide, tyX0_ok, nmX0, Or.inl q241, Or.inl rfl, rfl, (fun h => by cases h), by decide +kernel⟩
theorem fa_X0_299_5 : zFA RX0 299 5 10 := ⟨RX5, TX5, 16, "WheelLand$House", rfl, in_X5, by decide, rfl, by decide, Or.inr ⟨"WheelLand", List.mem_of_getElem? (i := 38) rfl⟩, Or.inl rfl⟩
theorem pa_X0_299_5 : zPA false RX0 299 5 10 (.int) := ⟨RX5, TX5, 16, "WheelLand$House", tyX5, rfl, in_X5, by decide, rfl, by decide, tyX5_ok, nmX5, Or.inr ⟨rfl, "WheelLand", List.mem_of_getElem? (i := 38) rfl⟩, Or.inl rfl, rfl, (fun h => by cases h), by decide +kernel⟩
theorem lk_X0_302 : zLV RX0 302 yX4_sellsMill cX4_sellsMill 1 (none) 0 := ⟨lw_V q681 q682 q683 q99 q684, by decide +kernel, by decide +kernel, by decide +kernel⟩
theorem pa_X0_305_4 : zPA false RX0 305 4 11 (.int) := ⟨RX4, TX4, 18, "WheelLand$Village", tyX4, rfl, in_X4, by decide, rfl, by decide, tyX4_ok, nmX4, Or.inr ⟨rfl, "WheelLand", List.mem_of_getElem? (i := 20) rfl⟩, Or.inl rfl, rfl, (fun h => by cases h), by decide +kernel⟩
theorem fa_X0_305_4 : zFA RX0 305 4 11 := ⟨RX4, TX4, 18, "WheelLand$Village", rfl, in_X4, by decide, rfl, by decide, Or.inr ⟨"WheelLand", List.mem_of_getElem? (i := 20) rfl⟩, Or.inl rfl⟩
theorem pa_X0_280_4 : zPA false RX0 280 4 10 (.int) := ⟨RX4, TX4, 18, "WheelLand$Village", tyX4, rfl, in_X4, by decide, rfl, by decide, tyX4_ok, nmX4, Or.inr ⟨rfl, "WheelLand", List.mem_of_getElem? (i := 19) rfl⟩, Or.inl rfl, rfl, (fun h => by cases h), by decide +kernel⟩
theorem fa_X0_71_0 : zFA RX0 71 0 11 := ⟨RX0, TX0, 35, "WheelLand", rfl, in_X0, by decide, rfl, by decide, Or.inl q230, Or.inl rfl⟩
theorem fa_X0_308_8 : zFA RX0 308 8 6 := ⟨RX8, TX8, 7, "WheelLand$Lot", rfl, in_X8, by decide, rfl, by decide, Or.inr ⟨"WheelLand", List.mem_of_getElem? (i := 54) rfl⟩, Or.inl rfl⟩
theorem fa_X0_311_0 : zFA RX0 311 0 23 := ⟨RX0, TX0, 35, "WheelLand", rfl, in_X0, by decide, rfl, by decide, Or.inl q242, Or.inl rfl⟩
theorem fa_X0_314_0 : zFA RX0 314 0 24 := ⟨RX0, TX0, 35, "WheelLand", rfl, in_X0, by decide, rfl, by decide, Or.inl q243, Or.inl rfl⟩
theorem lk_X0_189 : zLV RX0 189 yX0_spins cX0_spins 4 (none) 1 := ⟨lw_V q554 q556 qs6 q95 q557, by decide +kernel, by decide +kernel, by decide +kernel⟩
theorem lk_X0_193 : zLV RX0 193 yX5_needs cX5_needs 2 (some .boolean) 1 := ⟨lw_V q625 q626 q627 q100 q628, by decide +kernel, by decide +kernel, by decide +kernel⟩
theorem lk_X0_196 : zLV RX0 196 yX0_buys cX0_buys 5 (none) 1 := ⟨lw_V q629 q631 qs7 q95 q632, by decide +kernel, by decide +kernel, by decide +kernel⟩
theorem lk_X0_199 : zLV RX0 199 yX0_words cX0_words 4 (none) 0 := ⟨lw_V q685 q687 qs13 q95 q688, by decide +kernel, by decide +kernel, by decide +kernel⟩
theorem fa_X0_205_5 : zFA RX0 205 5 11 := ⟨RX5, TX5, 16, "WheelLand$House", rfl, in_X5, by decide, rfl, by decide, Or.inr ⟨"WheelLand", List.mem_of_getElem? (i := 39) rfl⟩, Or.inl rfl⟩
theorem lk_X0_208 : zLV RX0 208 yX0_asksHouse cX0_asksHouse 3 (some .int) 2 := ⟨lw_V q689 q691 qs14 q95 q692, by decide +kernel, by decide +kernel, by decide +kernel⟩
theorem pa_X0_205_5 : zPA false RX0 205 5 11 (.int) := ⟨RX5, TX5, 16, "WheelLand$House", tyX5, rfl, in_X5, by decide, rfl, by decide, tyX5_ok, nmX5, Or.inr ⟨rfl, "WheelLand", List.mem_of_getElem? (i := 39) rfl⟩, Or.inl rfl, rfl, (fun h => by cases h), by decide +kernel⟩
theorem lk_X0_215 : zLV RX0 215 yX4_answers cX4_answers 1 (none) 0 := ⟨lw_V q697 q698 q699 q99 q700, by decide +kernel, by decide +kernel, by decide +kernel⟩
theorem lk_X0_218 : zLV RX0 218 yX0_tells cX0_tells 3 (none) 0 := ⟨lw_V q703 q705 qs16 q95 q706, by decide +kernel, by decide +kernel, by decide +kernel⟩
theorem pa_X0_151_0 : zPA false RX0 151 0 14 (.int) := ⟨RX0, TX0, 35, "WheelLand", tyX0, rfl, in_X0, by decide, rfl, by decide, tyX0_ok, nmX0, Or.inl q233, Or.inl rfl, rfl, (fun h => by cases h), by decide +kernel⟩
theorem fa_X0_221_4 : zFA RX0 221 4 3 := ⟨RX4, TX4, 18, "WheelLand$Village", rfl, in_X4, by decide, rfl, by decide, Or.inr ⟨"WheelLand", List.mem_of_getElem? (i := 12) rfl⟩, Or.inl rfl⟩
theorem pa_X0_227_6 : zPA false RX0 227 6 3 (.int) := ⟨RX6, TX6, 4, "WheelLand$Loom", tyX6, rfl, in_X6, by decide, rfl, by decide, tyX6_ok, nmX6, Or.inr ⟨rfl, "WheelLand", List.mem_of_getElem? (i := 49) rfl⟩, Or.inl rfl, rfl, (fun h => by cases h), by decide +kernel⟩
theorem lk_X0_183 : zLV RX0 183 yX0_ends cX0_ends 2 (none) 0 := ⟨lw_V q550 q552 qs5 q95 q553, by decide +kernel, by decide +kernel, by decide +kernel⟩
theorem lk_X0_317 : zLV RX0 317 yX0_findLot cX0_findLot 2 (some (.object "WheelLand$Lot")) 1 := ⟨lw_V q711 q713 qs17 q95 q714, by decide +kernel, by decide +kernel, by decide +kernel⟩
theorem fa_X0_325_5 : zFA RX0 325 5 0 := ⟨RX5, TX5, 16, "WheelLand$House", rfl, in_X5, by decide, rfl, by decide, Or.inr ⟨"WheelLand", List.mem_of_getElem? (i := 26) rfl⟩, Or.inl rfl⟩
theorem fa_X0_326_8 : zFA RX0 326 8 1 := ⟨RX8, TX8, 7, "WheelLand$Lot", rfl, in_X8, by decide, rfl, by decide, Or.inl q603, Or.inr q604⟩
theorem fa_X0_335_8 : zFA RX0 335 8 5 := ⟨RX8, TX8, 7, "WheelLand$Lot", rfl, in_X8, by decide, rfl, by decide, Or.inr ⟨"WheelLand", List.mem_of_getElem? (i := 53) rfl⟩, Or.inl rfl⟩
theorem fa_X0_74_0 : zFA RX0 74 0 12 := ⟨RX0, TX0, 35, "WheelLand", rfl, in_X0, by decide, rfl, by decide, Or.inl q231, Or.inl rfl⟩
theorem fa_X0_338_0 : zFA RX0 338 0 21 := ⟨RX0, TX0, 35, "WheelLand", rfl, in_X0, by decide, rfl, by decide, Or.inl q240, Or.inl rfl⟩
theorem pa_X0_338_0 : zPA false RX0 338 0 21 (.int) := ⟨RX0, TX0, 35, "WheelLand", tyX0, rfl, in_X0, by decide, rfl, by decide, tyX0_ok, nmX0, Or.inl q240, Or.inl rfl, rfl, (fun h => by cases h), by decide +kernel⟩
theorem lk_X0_341 : zLV RX0 341 yX0_feeds cX0_feeds 3 (none) 1 := ⟨lw_V q719 q721 qs18 q95 q722, by decide +kernel, by decide +kernel, by decide +kernel⟩
theorem fa_X0_81_0 : zFA RX0 81 0 13 := ⟨RX0, TX0, 35, "WheelLand", rfl, in_X0, by decide, rfl, by decide, Or.inl q232, Or.inl rfl⟩
theorem lk_X0_344 : zLV RX0 344 yX1_read cX1_read 6 (some (.object "WheelLand$Sheet")) 2 := ⟨lw_V q732 q733 q734 q96 q735, by decide +kernel, by decide +kernel, by decide +kernel⟩
theorem fa_X0_350_11 : zFA RX0 350 11 6 := ⟨RX11, TX11, 7, "WheelLand$Fault", rfl, in_X11, by decide, rfl, by decide, Or.inr ⟨"WheelLand", List.mem_of_getElem? (i := 57) rfl⟩, Or.inl rfl⟩
theorem fa_X0_353_0 : zFA RX0 353 0 19 := ⟨RX0, TX0, 35, "WheelLand", rfl, in_X0, by decide, rfl, by decide, Or.inl q238, Or.inl rfl⟩
theorem pa_X0_353_0 : zPA false RX0 353 0 19 (.int) := ⟨RX0, TX0, 35, "WheelLand", tyX0, rfl, in_X0, by decide, rfl, by decide, tyX0_ok, nmX0, Or.inl q238, Or.inl rfl, rfl, (fun h => by cases h), by decide +kernel⟩
theorem pa_X0_356_0 : zPA false RX0 356 0 20 (.int) := ⟨RX0, TX0, 35, "WheelLand", tyX0, rfl, in_X0, by decide, rfl, by decide, tyX0_ok, nmX0, Or.inl q239, Or.inl rfl, rfl, (fun h => by cases h), by decide +kernel⟩
theorem pa_X0_308_8 : zPA false RX0 308 8 6 (.int) := ⟨RX8, TX8, 7, "WheelLand$Lot", tyX8, rfl, in_X8, by decide, rfl, by decide, tyX8_ok, nmX8, Or.inr ⟨rfl, "WheelLand", List.mem_of_getElem? (i := 54) rfl⟩, Or.inl rfl, rfl, (fun h => by cases h), by decide +kernel⟩
theorem fa_X0_390_5 : zFA RX0 390 5 12 := ⟨RX5, TX5, 16, "WheelLand$House", rfl, in_X5, by decide, rfl, by decide, Or.inr ⟨"WheelLand", List.mem_of_getElem? (i := 40) rfl⟩, Or.inl rfl⟩
theorem pa_X0_390_5 : zPA false RX0 390 5 12 (.int) := ⟨RX5, TX5, 16, "WheelLand$House", tyX5, rfl, in_X5, by decide, rfl, by decide, tyX5_ok, nmX5, Or.inr ⟨rfl, "WheelLand", List.mem_of_getElem? (i := 40) rfl⟩, Or.inl rfl, rfl, (fun h => by cases h), by decide +kernel⟩
theorem pa_X0_311_0 : zPA false RX0 311 0 23 (.int) := ⟨RX0, TX0, 35, "WheelLand", tyX0, rfl, in_X0, by decide, rfl, by decide, tyX0_ok, nmX0, Or.inl q242, Or.inl rfl, rfl, (fun h => by cases h), by decide +kernel⟩
theorem fa_X0_393_5 : zFA RX0 393 5 13 := ⟨RX5, TX5, 16, "WheelLand$House", rfl, in_X5, by decide, rfl, by decide, Or.inr ⟨"WheelLand", List.mem_of_getElem? (i := 41) rfl⟩, Or.inl rfl⟩
theorem pa_X0_393_5 : zPA false RX0 393 5 13 (.int) := ⟨RX5, TX5, 16, "WheelLand$House", tyX5, rfl, in_X5, by decide, rfl, by decide, tyX5_ok, nmX5, Or.inr ⟨rfl, "WheelLand", List.mem_of_getElem? (i := 41) rfl⟩, Or.inl rfl, rfl, (fun h => by cases h), by decide +kernel⟩
theorem lk_X0_406 : zLV RX0 406 yX0_barOf cX0_barOf 4 (some .int) 3 := ⟨lw_V q1045 q1047 qs36 q95 q1048, by decide +kernel, by decide +kernel, by decide +kernel⟩
theorem fa_X0_410_6 : zFA RX0 410 6 2 := ⟨RX6, TX6, 4, "WheelLand$Loom", rfl, in_X6, by decide, rfl, by decide, Or.inr ⟨"WheelLand", List.mem_of_getElem? (i := 48) rfl⟩, Or.inl rfl⟩
theorem fa_X0_227_6 : zFA RX0 227 6 3 := ⟨RX6, TX6, 4, "WheelLand$Loom", rfl, in_X6, by decide, rfl, by decide, Or.inr ⟨"WheelLand", List.mem_of_getElem? (i := 49) rfl⟩, Or.inl rfl⟩
theorem lk_X0_411 : zLS RX0 411 yX0_canBeWoven cX0_canBeWoven 1 (some .boolean) 1 := ⟨lw_S q1038 q1039 q95 q1040, by decide +kernel, by decide +kernel, by decide +kernel⟩
theorem lk_X0_414 : zLV RX0 414 yX0_barAll cX0_barAll 5 (some .int) 3 := ⟨lw_V q1041 q1043 qs35 q95 q1044, by decide +kernel, by decide +kernel, by decide +kernel⟩
theorem lk_X0_417 : zLV RX0 417 yX0_bar cX0_bar 6 (some .int) 3 := ⟨lw_V q1061 q1035 q1036 q95 q1037, by decide +kernel, by decide +kernel, by decide +kernel⟩
theorem fa_X0_126_0 : zFA RX0 126 0 18 := ⟨RX0, TX0, 35, "WheelLand", rfl, in_X0, by decide, rfl, by decide, Or.inl q237, Or.inl rfl⟩
theorem pa_X0_314_0 : zPA false RX0 314 0 24 (.int) := ⟨RX0, TX0, 35, "WheelLand", tyX0, rfl, in_X0, by decide, rfl, by decide, tyX0_ok, nmX0, Or.inl q243, Or.inl rfl, rfl, (fun h => by cases h), by decide +kernel⟩
theorem fa_X0_42_0 : zFA RX0 42 0 3 := ⟨RX0, TX0, 35, "WheelLand", rfl, in_X0, by decide, rfl, by decide, Or.inl q222, Or.inl rfl⟩
theorem na_X0_40 : zNA RX0 40 12 := ⟨RX12, TX12, 6, tyX12, rfl, in_X12, tyX12_ok, q132, q1062, q117, rfl, by decide, (by intro j hj; rcases (show j = 0 ∨ j = 1 ∨ j = 2 ∨ j = 3 ∨ j = 4 ∨ j = 5 by omega) with rfl | rfl | rfl | rfl | rfl | rfl <;> rfl)⟩
theorem lk_X0_421 : zLI RX0 421 yX12_init cX12_init 6 5 := ⟨lw_meth q1065, q117, q1063, q1064, rfl, by decide +kernel, by decide +kernel, by decide +kernel⟩
theorem pa_X0_126_0 : zPA false RX0 126 0 18 (.int) := ⟨RX0, TX0, 35, "WheelLand", tyX0, rfl, in_X0, by decide, rfl, by decide, tyX0_ok, nmX0, Or.inl q237, Or.inl rfl, rfl, (fun h => by cases h), by decide +kernel⟩
theorem lk_X0_424 : zLV RX0 424 yX0_findCloth cX0_findCloth 2 (some (.object "WheelLand$Cloth")) 1 := ⟨lw_V q1089 q1091 qs39 q95 q1092, by decide +kernel, by decide +kernel, by decide +kernel⟩
theorem fa_X0_428_12 : zFA RX0 428 12 2 := ⟨RX12, TX12, 6, "WheelLand$Cloth", rfl, in_X12, by decide, rfl, by decide, Or.inr ⟨"WheelLand", List.mem_of_getElem? (i := 60) rfl⟩, Or.inl rfl⟩
theorem fa_X0_432_8 : zFA RX0 432 8 2 := ⟨RX8, TX8, 7, "WheelLand$Lot", rfl, in_X8, by decide, rfl, by decide, Or.inr ⟨"WheelLand", List.mem_of_getElem? (i := 50) rfl⟩, Or.inl rfl⟩
theorem fa_X0_433_12 : zFA RX0 433 12 0 := ⟨RX12, TX12, 6, "WheelLand$Cloth", rfl, in_X12, by decide, rfl, by decide, Or.inl q600, Or.inr q601⟩
theorem fa_X0_434_12 : zFA RX0 434 12 1 := ⟨RX12, TX12, 6, "WheelLand$Cloth", rfl, in_X12, by decide, rfl, by decide, Or.inl q605, Or.inr q606⟩
theorem fa_X0_435_12 : zFA RX0 435 12 3 := ⟨RX12, TX12, 6, "WheelLand$Cloth", rfl, in_X12, by decide, rfl, by decide, Or.inr ⟨"WheelLand", List.mem_of_getElem? (i := 61) rfl⟩, Or.inl rfl⟩
theorem fa_X0_438_12 : zFA RX0 438 12 4 := ⟨RX12, TX12, 6, "WheelLand$Cloth", rfl, in_X12, by decide, rfl, by decide, Or.inr ⟨"WheelLand", List.mem_of_getElem? (i := 62) rfl⟩, Or.inl rfl⟩
theorem fa_X0_442_12 : zFA RX0 442 12 5 := ⟨RX12, TX12, 6, "WheelLand$Cloth", rfl, in_X12, by decide, rfl, by decide, Or.inr ⟨"WheelLand", List.mem_of_getElem? (i := 63) rfl⟩, Or.inl rfl⟩
theorem fa_X0_90_0 : zFA RX0 90 0 27 := ⟨RX0, TX0, 35, "WheelLand", rfl, in_X0, by decide, rfl, by decide, Or.inl q246, Or.inl rfl⟩
theorem fa_X0_445_2 : zFA RX0 445 2 5 := ⟨RX2, TX2, 11, "WheelLand$Hands", rfl, in_X2, by decide, rfl, by decide, Or.inr ⟨"WheelLand", List.mem_of_getElem? (i := 3) rfl⟩, Or.inl rfl⟩
theorem fa_X0_448_2 : zFA RX0 448 2 0 := ⟨RX2, TX2, 11, "WheelLand$Hands", rfl, in_X2, by decide, rfl, by decide, Or.inr ⟨"WheelLand", List.mem_of_getElem? (i := 0) rfl⟩, Or.inl rfl⟩
theorem pa_X0_445_2 : zPA false RX0 445 2 5 (.int) := ⟨RX2, TX2, 11, "WheelLand$Hands", tyX2, rfl, in_X2, by decide, rfl, by decide, tyX2_ok, nmX2, Or.inr ⟨rfl, "WheelLand", List.mem_of_getElem? (i := 3) rfl⟩, Or.inl rfl, rfl, (fun h => by cases h), by decide +kernel⟩
theorem lk_X0_451 : zLV RX0 451 yX2_asks cX2_asks 3 (some .boolean) 1 := ⟨lw_V q1105 q1106 q1107 q97 q1108, by decide +kernel, by decide +kernel, by decide +kernel⟩
theorem fa_X0_459_2 : zFA RX0 459 2 7 := ⟨RX2, TX2, 11, "WheelLand$Hands", rfl, in_X2, by decide, rfl, by decide, Or.inr ⟨"WheelLand", List.mem_of_getElem? (i := 4) rfl⟩, Or.inl rfl⟩
theorem fa_X0_462_2 : zFA RX0 462 2 8 := ⟨RX2, TX2, 11, "WheelLand$Hands", rfl, in_X2, by decide, rfl, by decide, Or.inr ⟨"WheelLand", List.mem_of_getElem? (i := 5) rfl⟩, Or.inl rfl⟩
theorem fa_X0_465_2 : zFA RX0 465 2 9 := ⟨RX2, TX2, 11, "WheelLand$Hands", rfl, in_X2, by decide, rfl, by decide, Or.inr ⟨"WheelLand", List.mem_of_getElem? (i := 6) rfl⟩, Or.inl rfl⟩
theorem fa_X0_453_2 : zFA RX0 453 2 3 := ⟨RX2, TX2, 11, "WheelLand$Hands", rfl, in_X2, by decide, rfl, by decide, Or.inr ⟨"WheelLand", List.mem_of_getElem? (i := 2) rfl⟩, Or.inl rfl⟩
theorem fa_X0_456_2 : zFA RX0 456 2 1 := ⟨RX2, TX2, 11, "WheelLand$Hands", rfl, in_X2, by decide, rfl, by decide, Or.inr ⟨"WheelLand", List.mem_of_getElem? (i := 1) rfl⟩, Or.inl rfl⟩
theorem fa_X0_468_4 : zFA RX0 468 4 5 := ⟨RX4, TX4, 18, "WheelLand$Village", rfl, in_X4, by decide, rfl, by decide, Or.inr ⟨"WheelLand", List.mem_of_getElem? (i := 14) rfl⟩, Or.inl rfl⟩
theorem fa_X0_471_4 : zFA RX0 471 4 6 := ⟨RX4, TX4, 18, "WheelLand$Village", rfl, in_X4, by decide, rfl, by decide, Or.inr ⟨"WheelLand", List.mem_of_getElem? (i := 15) rfl⟩, Or.inl rfl⟩
theorem pa_X0_442_12 : zPA false RX0 442 12 5 (.object "WheelLand$Village") := ⟨RX12, TX12, 6, "WheelLand$Cloth", tyX12, rfl, in_X12, by decide, rfl, by decide, tyX12_ok, nmX12, Or.inr ⟨rfl, "WheelLand", List.mem_of_getElem? (i := 63) rfl⟩, Or.inl rfl, rfl, (fun h => by cases h), by decide +kernel⟩
theorem pa_X0_471_4 : zPA false RX0 471 4 6 (.int) := ⟨RX4, TX4, 18, "WheelLand$Village", tyX4, rfl, in_X4, by decide, rfl, by decide, tyX4_ok, nmX4, Or.inr ⟨rfl, "WheelLand", List.mem_of_getElem? (i := 15) rfl⟩, Or.inl rfl, rfl, (fun h => by cases h), by decide +kernel⟩
theorem pa_X0_468_4 : zPA false RX0 468 4 5 (.int) := ⟨RX4, TX4, 18, "WheelLand$Village", tyX4, rfl, in_X4, by decide, rfl, by decide, tyX4_ok, nmX4, Or.inr ⟨rfl, "WheelLand", List.mem_of_getElem? (i := 14) rfl⟩, Or.inl rfl, rfl, (fun h => by cases h), by decide +kernel⟩
theorem fa_X0_474_4 : zFA RX0 474 4 14 := ⟨RX4, TX4, 18, "WheelLand$Village", rfl, in_X4, by decide, rfl, by decide, Or.inr ⟨"WheelLand", List.mem_of_getElem? (i := 23) rfl⟩, Or.inl rfl⟩
theorem pa_X0_474_4 : zPA false RX0 474 4 14 (.int) := ⟨RX4, TX4, 18, "WheelLand$Village", tyX4, rfl, in_X4, by decide, rfl, by decide, tyX4_ok, nmX4, Or.inr ⟨rfl, "WheelLand", List.mem_of_getElem? (i := 23) rfl⟩, Or.inl rfl, rfl, (fun h => by cases h), by decide +kernel⟩
theorem pa_X0_277_4 : zPA false RX0 277 4 7 (.int) := ⟨RX4, TX4, 18, "WheelLand$Village", tyX4, rfl, in_X4, by decide, rfl, by decide, tyX4_ok, nmX4, Or.inr ⟨rfl, "WheelLand", List.mem_of_getElem? (i := 16) rfl⟩, Or.inl rfl, rfl, (fun h => by cases h), by decide +kernel⟩
theorem pa_X0_274_4 : zPA false RX0 274 4 8 (.int) := ⟨RX4, TX4, 18, "WheelLand$Village", tyX4, rfl, in_X4, by decide, rfl, by decide, tyX4_ok, nmX4, Or.inr ⟨rfl, "WheelLand", List.mem_of_getElem? (i := 17) rfl⟩, Or.inl rfl, rfl, (fun h => by cases h), by decide +kernel⟩
theorem pa_X0_224_4 : zPA false RX0 224 4 9 (.int) := ⟨RX4, TX4, 18, "WheelLand$Village", tyX4, rfl, in_X4, by decide, rfl, by decide, tyX4_ok, nmX4, Or.inr ⟨rfl, "WheelLand", List.mem_of_getElem? (i := 18) rfl⟩, Or.inl rfl, rfl, (fun h => by cases h), by decide +kernel⟩
theorem fa_X0_477_4 : zFA RX0 477 4 13 := ⟨RX4, TX4, 18, "WheelLand$Village", rfl, in_X4, by decide, rfl, by decide, Or.inr ⟨"WheelLand", List.mem_of_getElem? (i := 22) rfl⟩, Or.inl rfl⟩
theorem pa_X0_477_4 : zPA false RX0 477 4 13 (.int) := ⟨RX4, TX4, 18, "WheelLand$Village", tyX4, rfl, in_X4, by decide, rfl, by decide, tyX4_ok, nmX4, Or.inr ⟨rfl, "WheelLand", List.mem_of_getElem? (i := 22) rfl⟩, Or.inl rfl, rfl, (fun h => by cases h), by decide +kernel⟩
theorem fa_X0_480_4 : zFA RX0 480 4 15 := ⟨RX4, TX4, 18, "WheelLand$Village", rfl, in_X4, by decide, rfl, by decide, Or.inr ⟨"WheelLand", List.mem_of_getElem? (i := 24) rfl⟩, Or.inl rfl⟩
theorem lk_X0_483 : zLS RX0 483 yX0_wrongAt cX0_wrongAt 2 (some .int) 2 := ⟨lw_S q1158 q1159 q95 q1160, by decide +kernel, by decide +kernel, by decide +kernel⟩
theorem fa_X0_487_0 : zFA RX0 487 0 34 := ⟨RX0, TX0, 35, "WheelLand", rfl, in_X0, by decide, rfl, by decide, Or.inl q253, Or.inl rfl⟩
theorem fa_X0_94_0 : zFA RX0 94 0 28 := ⟨RX0, TX0, 35, "WheelLand", rfl, in_X0, by decide, rfl, by decide, Or.inl q247, Or.inl rfl⟩
theorem fa_X0_97_0 : zFA RX0 97 0 29 := ⟨RX0, TX0, 35, "WheelLand", rfl, in_X0, by decide, rfl, by decide, Or.inl q248, Or.inl rfl⟩
theorem fa_X0_100_0 : zFA RX0 100 0 30 := ⟨RX0, TX0, 35, "WheelLand", rfl, in_X0, by decide, rfl, by decide, Or.inl q249, Or.inl rfl⟩
theorem pa_X0_487_0 : zPA false RX0 487 0 34 (.int) := ⟨RX0, TX0, 35, "WheelLand", tyX0, rfl, in_X0, by decide, rfl, by decide, tyX0_ok, nmX0, Or.inl q253, Or.inl rfl, rfl, (fun h => by cases h), by decide +kernel⟩
theorem fa_X0_103_0 : zFA RX0 103 0 31 := ⟨RX0, TX0, 35, "WheelLand", rfl, in_X0, by decide, rfl, by decide, Or.inl q250, Or.inl rfl⟩
theorem fa_X0_106_0 : zFA RX0 106 0 32 := ⟨RX0, TX0, 35, "WheelLand", rfl, in_X0, by decide, rfl, by decide, Or.inl q251, Or.inl rfl⟩
theorem fa_X0_109_0 : zFA RX0 109 0 33 := ⟨RX0, TX0, 35, "WheelLand", rfl, in_X0, by decide, rfl, by decide, Or.inl q252, Or.inl rfl⟩
theorem lk_X0_490 : zLV RX0 490 yX0_spunWith cX0_spunWith 8 (some .int) 1 := ⟨lw_V q1177 q1179 qs42 q95 q1180, by decide +kernel, by decide +kernel, by decide +kernel⟩
theorem lk_X0_493 : zLV RX0 493 yX5_strength cX5_strength 1 (some .int) 0 := ⟨lw_V q1189 q580 q581 q100 q582, by decide +kernel, by decide +kernel, by decide +kernel⟩
theorem lk_X0_496 : zLV RX0 496 yX0_told cX0_told 3 (some .int) 2 := ⟨lw_V q1198 q1191 q1192 q95 q1193, by decide +kernel, by decide +kernel, by decide +kernel⟩
theorem lk_X0_498 : zLV RX0 498 yX0_with cX0_with 5 (some .int) 4 := ⟨lw_V q1199 q1201 qs43 q95 q1202, by decide +kernel, by decide +kernel, by decide +kernel⟩
theorem fa_X0_501_4 : zFA RX0 501 4 12 := ⟨RX4, TX4, 18, "WheelLand$Village", rfl, in_X4, by decide, rfl, by decide, Or.inr ⟨"WheelLand", List.mem_of_getElem? (i := 21) rfl⟩, Or.inl rfl⟩
theorem fa_X0_504_4 : zFA RX0 504 4 16 := ⟨RX4, TX4, 18, "WheelLand$Village", rfl, in_X4, by decide, rfl, by decide, Or.inr ⟨"WheelLand", List.mem_of_getElem? (i := 25) rfl⟩, Or.inl rfl⟩
theorem pa_X3_11_3 : zPA true RX3 11 3 3 (.array (.array .int)) := ⟨RX3, TX3, 97, "WheelLandModel", tyX3, rfl, in_X3, by decide, rfl, by decide, tyX3_ok, nmX3, Or.inl q1250, Or.inl rfl, rfl, (fun _ => rfl), by decide +kernel⟩
theorem pa_X3_14_3 : zPA true RX3 14 3 4 (.array (.array .int)) := ⟨RX3, TX3, 97, "WheelLandModel", tyX3, rfl, in_X3, by decide, rfl, by decide, tyX3_ok, nmX3, Or.inl q1251, Or.inl rfl, rfl, (fun _ => rfl), by decide +kernel⟩
theorem pa_X3_17_3 : zPA true RX3 17 3 5 (.array (.array .int)) := ⟨RX3, TX3, 97, "WheelLandModel", tyX3, rfl, in_X3, by decide, rfl, by decide, tyX3_ok, nmX3, Or.inl q1252, Or.inl rfl, rfl, (fun _ => rfl), by decide +kernel⟩
theorem pa_X3_20_3 : zPA true RX3 20 3 6 (.array .int) := ⟨RX3, TX3, 97, "WheelLandModel", tyX3, rfl, in_X3, by decide, rfl, by decide, tyX3_ok, nmX3, Or.inl q1253, Or.inl rfl, rfl, (fun _ => rfl), by decide +kernel⟩
theorem pa_X3_24_3 : zPA true RX3 24 3 7 (.array .int) := ⟨RX3, TX3, 97, "WheelLandModel", tyX3, rfl, in_X3, by decide, rfl, by decide, tyX3_ok, nmX3, Or.inl q1254, Or.inl rfl, rfl, (fun _ => rfl), by decide +kernel⟩
theorem pa_X3_27_3 : zPA true RX3 27 3 8 (.array .int) := ⟨RX3, TX3, 97, "WheelLandModel", tyX3, rfl, in_X3, by decide, rfl, by decide, tyX3_ok, nmX3, Or.inl q1255, Or.inl rfl, rfl, (fun _ => rfl), by decide +kernel⟩
theorem pa_X3_30_3 : zPA true RX3 30 3 9 (.array .int) := ⟨RX3, TX3, 97, "WheelLandModel", tyX3, rfl, in_X3, by decide, rfl, by decide, tyX3_ok, nmX3, Or.inl q1256, Or.inl rfl, rfl, (fun _ => rfl), by decide +kernel⟩
theorem pa_X3_33_3 : zPA true RX3 33 3 10 (.array .int) := ⟨RX3, TX3, 97, "WheelLandModel", tyX3, rfl, in_X3, by decide, rfl, by decide, tyX3_ok, nmX3, Or.inl q1257, Or.inl rfl, rfl, (fun _ => rfl), by decide +kernel⟩
theorem pa_X3_36_3 : zPA true RX3 36 3 11 (.array .int) := ⟨RX3, TX3, 97, "WheelLandModel", tyX3, rfl, in_X3, by decide, rfl, by decide, tyX3_ok, nmX3, Or.inl q1258, Or.inl rfl, rfl, (fun _ => rfl), by decide +kernel⟩
theorem pa_X3_39_3 : zPA true RX3 39 3 12 (.array .int) := ⟨RX3, TX3, 97, "WheelLandModel", tyX3, rfl, in_X3, by decide, rfl, by decide, tyX3_ok, nmX3, Or.inl q1259, Or.inl rfl, rfl, (fun _ => rfl), by decide +kernel⟩
theorem pa_X3_42_3 : zPA true RX3 42 3 13 (.array .int) := ⟨RX3, TX3, 97, "WheelLandModel", tyX3, rfl, in_X3, by decide, rfl, by decide, tyX3_ok, nmX3, Or.inl q1260, Or.inl rfl, rfl, (fun _ => rfl), by decide +kernel⟩
theorem pa_X3_45_3 : zPA true RX3 45 3 14 (.array .int) := ⟨RX3, TX3, 97, "WheelLandModel", tyX3, rfl, in_X3, by decide, rfl, by decide, tyX3_ok, nmX3, Or.inl q1261, Or.inl rfl, rfl, (fun _ => rfl), by decide +kernel⟩
theorem pa_X3_48_3 : zPA true RX3 48 3 15 (.array .int) := ⟨RX3, TX3, 97, "WheelLandModel", tyX3, rfl, in_X3, by decide, rfl, by decide, tyX3_ok, nmX3, Or.inl q1262, Or.inl rfl, rfl, (fun _ => rfl), by decide +kernel⟩
theorem pa_X3_51_3 : zPA true RX3 51 3 16 (.array .int) := ⟨RX3, TX3, 97, "WheelLandModel", tyX3, rfl, in_X3, by decide, rfl, by decide, tyX3_ok, nmX3, Or.inl q1263, Or.inl rfl, rfl, (fun _ => rfl), by decide +kernel⟩
theorem pa_X3_54_3 : zPA true RX3 54 3 17 (.array .int) := ⟨RX3, TX3, 97, "WheelLandModel", tyX3, rfl, in_X3, by decide, rfl, by decide, tyX3_ok, nmX3, Or.inl q1264, Or.inl rfl, rfl, (fun _ => rfl), by decide +kernel⟩
theorem pa_X3_57_3 : zPA true RX3 57 3 18 (.array .int) := ⟨RX3, TX3, 97, "WheelLandModel", tyX3, rfl, in_X3, by decide, rfl, by decide, tyX3_ok, nmX3, Or.inl q1265, Or.inl rfl, rfl, (fun _ => rfl), by decide +kernel⟩
theorem pa_X3_60_3 : zPA true RX3 60 3 19 (.array .int) := ⟨RX3, TX3, 97, "WheelLandModel", tyX3, rfl, in_X3, by decide, rfl, by decide, tyX3_ok, nmX3, Or.inl q1266, Or.inl rfl, rfl, (fun _ => rfl), by decide +kernel⟩
theorem pa_X3_63_3 : zPA true RX3 63 3 20 (.array .int) := ⟨RX3, TX3, 97, "WheelLandModel", tyX3, rfl, in_X3, by decide, rfl, by decide, tyX3_ok, nmX3, Or.inl q1267, Or.inl rfl, rfl, (fun _ => rfl), by decide +kernel⟩
theorem pa_X3_66_3 : zPA true RX3 66 3 21 (.array .int) := ⟨RX3, TX3, 97, "WheelLandModel", tyX3, rfl, in_X3, by decide, rfl, by decide, tyX3_ok, nmX3, Or.inl q1268, Or.inl rfl, rfl, (fun _ => rfl), by decide +kernel⟩
theorem pa_X3_69_3 : zPA true RX3 69 3 22 (.array .int) := ⟨RX3, TX3, 97, "WheelLandModel", tyX3, rfl, in_X3, by decide, rfl, by decide, tyX3_ok, nmX3, Or.inl q1269, Or.inl rfl, rfl, (fun _ => rfl), by decide +kernel⟩
theorem pa_X3_72_3 : zPA true RX3 72 3 23 (.array .int) := ⟨RX3, TX3, 97, "WheelLandModel", tyX3, rfl, in_X3, by decide, rfl, by decide, tyX3_ok, nmX3, Or.inl q1270, Or.inl rfl, rfl, (fun _ => rfl), by decide +kernel⟩
theorem pa_X3_75_3 : zPA true RX3 75 3 24 (.array .int) := ⟨RX3, TX3, 97, "WheelLandModel", tyX3, rfl, in_X3, by decide, rfl, by decide, tyX3_ok, nmX3, Or.inl q1271, Or.inl rfl, rfl, (fun _ => rfl), by decide +kernel⟩
theorem pa_X3_78_3 : zPA true RX3 78 3 25 (.array .int) := ⟨RX3, TX3, 97, "WheelLandModel", tyX3, rfl, in_X3, by decide, rfl, by decide, tyX3_ok, nmX3, Or.inl q1272, Or.inl rfl, rfl, (fun _ => rfl), by decide +kernel⟩
theorem pa_X3_81_3 : zPA true RX3 81 3 26 (.array .int) := ⟨RX3, TX3, 97, "WheelLandModel", tyX3, rfl, in_X3, by decide, rfl, by decide, tyX3_ok, nmX3, Or.inl q1273, Or.inl rfl, rfl, (fun _ => rfl), by decide +kernel⟩
theorem pa_X3_84_3 : zPA true RX3 84 3 27 (.array .int) := ⟨RX3, TX3, 97, "WheelLandModel", tyX3, rfl, in_X3, by decide, rfl, by decide, tyX3_ok, nmX3, Or.inl q1274, Or.inl rfl, rfl, (fun _ => rfl), by decide +kernel⟩
theorem pa_X3_87_3 : zPA true RX3 87 3 28 (.array .int) := ⟨RX3, TX3, 97, "WheelLandModel", tyX3, rfl, in_X3, by decide, rfl, by decide, tyX3_ok, nmX3, Or.inl q1275, Or.inl rfl, rfl, (fun _ => rfl), by decide +kernel⟩
theorem pa_X3_90_3 : zPA true RX3 90 3 29 (.array .int) := ⟨RX3, TX3, 97, "WheelLandModel", tyX3, rfl, in_X3, by decide, rfl, by decide, tyX3_ok, nmX3, Or.inl q1276, Or.inl rfl, rfl, (fun _ => rfl), by decide +kernel⟩
theorem pa_X3_93_3 : zPA true RX3 93 3 30 (.array .int) := ⟨RX3, TX3, 97, "WheelLandModel", tyX3, rfl, in_X3, by decide, rfl, by decide, tyX3_ok, nmX3, Or.inl q1277, Or.inl rfl, rfl, (fun _ => rfl), by decide +kernel⟩
theorem pa_X3_96_3 : zPA true RX3 96 3 31 (.array .int) := ⟨RX3, TX3, 97, "WheelLandModel", tyX3, rfl, in_X3, by decide, rfl, by decide, tyX3_ok, nmX3, Or.inl q1278, Or.inl rfl, rfl, (fun _ => rfl), by decide +kernel⟩
theorem pa_X3_99_3 : zPA true RX3 99 3 32 (.array .int) := ⟨RX3, TX3, 97, "WheelLandModel", tyX3, rfl, in_X3, by decide, rfl, by decide, tyX3_ok, nmX3, Or.inl q1279, Or.inl rfl, rfl, (fun _ => rfl), by decide +kernel⟩
theorem pa_X3_102_3 : zPA true RX3 102 3 33 (.array .int) := ⟨RX3, TX3, 97, "WheelLandModel", tyX3, rfl, in_X3, by decide, rfl, by decide, tyX3_ok, nmX3, Or.inl q1280, Or.inl rfl, rfl, (fun _ => rfl), by decide +kernel⟩
theorem pa_X3_105_3 : zPA true RX3 105 3 34 (.array .long) := ⟨RX3, TX3, 97, "WheelLandModel", tyX3, rfl, in_X3, by decide, rfl, by decide, tyX3_ok, nmX3, Or.inl q1281, Or.inl rfl, rfl, (fun _ => rfl), by decide +kernel⟩
theorem pa_X3_109_3 : zPA true RX3 109 3 35 (.array .int) := ⟨RX3, TX3, 97, "WheelLandModel", tyX3, rfl, in_X3, by decide, rfl, by decide, tyX3_ok, nmX3, Or.inl q1282, Or.inl rfl, rfl, (fun _ => rfl), by decide +kernel⟩
theorem pa_X3_112_3 : zPA true RX3 112 3 36 (.array .int) := ⟨RX3, TX3, 97, "WheelLandModel", tyX3, rfl, in_X3, by decide, rfl, by decide, tyX3_ok, nmX3, Or.inl q1283, Or.inl rfl, rfl, (fun _ => rfl), by decide +kernel⟩
theorem pa_X3_115_3 : zPA true RX3 115 3 37 (.array .int) := ⟨RX3, TX3, 97, "WheelLandModel", tyX3, rfl, in_X3, by decide, rfl, by decide, tyX3_ok, nmX3, Or.inl q1284, Or.inl rfl, rfl, (fun _ => rfl), by decide +kernel⟩
theorem pa_X3_118_3 : zPA true RX3 118 3 39 (.array .int) := ⟨RX3, TX3, 97, "WheelLandModel", tyX3, rfl, in_X3, by decide, rfl, by decide, tyX3_ok, nmX3, Or.inl q1286, Or.inl rfl, rfl, (fun _ => rfl), by decide +kernel⟩
theorem pa_X3_121_3 : zPA true RX3 121 3 40 (.array .byte) := ⟨RX3, TX3, 97, "WheelLandModel", tyX3, rfl, in_X3, by decide, rfl, by decide, tyX3_ok, nmX3, Or.inl q1287, Or.inl rfl, rfl, (fun _ => rfl), by decide +kernel⟩
theorem pa_X3_127_3 : zPA true RX3 127 3 48 (.array (.array (.array .int))) := ⟨RX3, TX3, 97, "WheelLandModel", tyX3, rfl, in_X3, by decide, rfl, by decide, tyX3_ok, nmX3, Or.inl q1295, Or.inl rfl, rfl, (fun _ => rfl), by decide +kernel⟩
theorem pa_X3_130_3 : zPA true RX3 130 3 49 (.array (.array .int)) := ⟨RX3, TX3, 97, "WheelLandModel", tyX3, rfl, in_X3, by decide, rfl, by decide, tyX3_ok, nmX3, Or.inl q1296, Or.inl rfl, rfl, (fun _ => rfl), by decide +kernel⟩
theorem pa_X3_133_3 : zPA true RX3 133 3 50 (.array .int) := ⟨RX3, TX3, 97, "WheelLandModel", tyX3, rfl, in_X3, by decide, rfl, by decide, tyX3_ok, nmX3, Or.inl q1297, Or.inl rfl, rfl, (fun _ => rfl), by decide +kernel⟩
theorem pa_X3_136_3 : zPA true RX3 136 3 51 (.array .int) := ⟨RX3, TX3, 97, "WheelLandModel", tyX3, rfl, in_X3, by decide, rfl, by decide, tyX3_ok, nmX3, Or.inl q1298, Or.inl rfl, rfl, (fun _ => rfl), by decide +kernel⟩
theorem pa_X3_151_3 : zPA true RX3 151 3 54 (.array (.object "java/lang/String")) := ⟨RX3, TX3, 97, "WheelLandModel", tyX3, rfl, in_X3, by decide, rfl, by decide, tyX3_ok, nmX3, Or.inl q1301, Or.inl rfl, rfl, (fun _ => rfl), by decide +kernel⟩
theorem pa_X3_176_3 : zPA true RX3 176 3 55 (.array (.object "java/lang/String")) := ⟨RX3, TX3, 97, "WheelLandModel", tyX3, rfl, in_X3, by decide, rfl, by decide, tyX3_ok, nmX3, Or.inl q1302, Or.inl rfl, rfl, (fun _ => rfl), by decide +kernel⟩
theorem pa_X3_179_3 : zPA true RX3 179 3 56 (.array .int) := ⟨RX3, TX3, 97, "WheelLandModel", tyX3, rfl, in_X3, by decide, rfl, by decide, tyX3_ok, nmX3, Or.inl q1303, Or.inl rfl, rfl, (fun _ => rfl), by decide +kernel⟩
theorem pa_X3_182_3 : zPA true RX3 182 3 57 (.array .int) := ⟨RX3, TX3, 97, "WheelLandModel", tyX3, rfl, in_X3, by decide, rfl, by decide, tyX3_ok, nmX3, Or.inl q1304, Or.inl rfl, rfl, (fun _ => rfl), by decide +kernel⟩
theorem pa_X3_185_3 : zPA true RX3 185 3 58 (.array .int) := ⟨RX3, TX3, 97, "WheelLandModel", tyX3, rfl, in_X3, by decide, rfl, by decide, tyX3_ok, nmX3, Or.inl q1305, Or.inl rfl, rfl, (fun _ => rfl), by decide +kernel⟩
theorem pa_X3_188_3 : zPA true RX3 188 3 59 (.array .int) := ⟨RX3, TX3, 97, "WheelLandModel", tyX3, rfl, in_X3, by decide, rfl, by decide, tyX3_ok, nmX3, Or.inl q1306, Or.inl rfl, rfl, (fun _ => rfl), by decide +kernel⟩
theorem pa_X3_191_3 : zPA true RX3 191 3 60 (.array .int) := ⟨RX3, TX3, 97, "WheelLandModel", tyX3, rfl, in_X3, by decide, rfl, by decide, tyX3_ok, nmX3, Or.inl q1307, Or.inl rfl, rfl, (fun _ => rfl), by decide +kernel⟩
theorem pa_X3_194_3 : zPA true RX3 194 3 61 (.array .int) := ⟨RX3, TX3, 97, "WheelLandModel", tyX3, rfl, in_X3, by decide, rfl, by decide, tyX3_ok, nmX3, Or.inl q1308, Or.inl rfl, rfl, (fun _ => rfl), by decide +kernel⟩
theorem pa_X3_197_3 : zPA true RX3 197 3 62 (.array .int) := ⟨RX3, TX3, 97, "WheelLandModel", tyX3, rfl, in_X3, by decide, rfl, by decide, tyX3_ok, nmX3, Or.inl q1309, Or.inl rfl, rfl, (fun _ => rfl), by decide +kernel⟩
theorem pa_X3_200_3 : zPA true RX3 200 3 63 (.array .int) := ⟨RX3, TX3, 97, "WheelLandModel", tyX3, rfl, in_X3, by decide, rfl, by decide, tyX3_ok, nmX3, Or.inl q1310, Or.inl rfl, rfl, (fun _ => rfl), by decide +kernel⟩
theorem pa_X3_203_3 : zPA true RX3 203 3 65 (.array .int) := ⟨RX3, TX3, 97, "WheelLandModel", tyX3, rfl, in_X3, by decide, rfl, by decide, tyX3_ok, nmX3, Or.inl q1312, Or.inl rfl, rfl, (fun _ => rfl), by decide +kernel⟩
theorem pa_X3_206_3 : zPA true RX3 206 3 66 (.array .int) := ⟨RX3, TX3, 97, "WheelLandModel", tyX3, rfl, in_X3, by decide, rfl, by decide, tyX3_ok, nmX3, Or.inl q1313, Or.inl rfl, rfl, (fun _ => rfl), by decide +kernel⟩
theorem pa_X3_209_3 : zPA true RX3 209 3 67 (.array .int) := ⟨RX3, TX3, 97, "WheelLandModel", tyX3, rfl, in_X3, by decide, rfl, by decide, tyX3_ok, nmX3, Or.inl q1314, Or.inl rfl, rfl, (fun _ => rfl), by decide +kernel⟩
theorem pa_X3_212_3 : zPA true RX3 212 3 68 (.array .int) := ⟨RX3, TX3, 97, "WheelLandModel", tyX3, rfl, in_X3, by decide, rfl, by decide, tyX3_ok, nmX3, Or.inl q1315, Or.inl rfl, rfl, (fun _ => rfl), by decide +kernel⟩
theorem pa_X3_215_3 : zPA true RX3 215 3 72 (.array .int) := ⟨RX3, TX3, 97, "WheelLandModel", tyX3, rfl, in_X3, by decide, rfl, by decide, tyX3_ok, nmX3, Or.inl q1319, Or.inl rfl, rfl, (fun _ => rfl), by decide +kernel⟩
theorem pa_X3_218_3 : zPA true RX3 218 3 73 (.array .int) := ⟨RX3, TX3, 97, "WheelLandModel", tyX3, rfl, in_X3, by decide, rfl, by decide, tyX3_ok, nmX3, Or.inl q1320, Or.inl rfl, rfl, (fun _ => rfl), by decide +kernel⟩
theorem pa_X3_221_3 : zPA true RX3 221 3 74 (.array .int) := ⟨RX3, TX3, 97, "WheelLandModel", tyX3, rfl, in_X3, by decide, rfl, by decide, tyX3_ok, nmX3, Or.inl q1321, Or.inl rfl, rfl, (fun _ => rfl), by decide +kernel⟩
theorem pa_X3_224_3 : zPA true RX3 224 3 75 (.array .int) := ⟨RX3, TX3, 97, "WheelLandModel", tyX3, rfl, in_X3, by decide, rfl, by decide, tyX3_ok, nmX3, Or.inl q1322, Or.inl rfl, rfl, (fun _ => rfl), by decide +kernel⟩
theorem pa_X3_227_3 : zPA true RX3 227 3 76 (.array .int) := ⟨RX3, TX3, 97, "WheelLandModel", tyX3, rfl, in_X3, by decide, rfl, by decide, tyX3_ok, nmX3, Or.inl q1323, Or.inl rfl, rfl, (fun _ => rfl), by decide +kernel⟩
theorem pa_X3_230_3 : zPA true RX3 230 3 77 (.array .boolean) := ⟨RX3, TX3, 97, "WheelLandModel", tyX3, rfl, in_X3, by decide, rfl, by decide, tyX3_ok, nmX3, Or.inl q1324, Or.inl rfl, rfl, (fun _ => rfl), by decide +kernel⟩
theorem pa_X3_234_3 : zPA true RX3 234 3 79 (.array .int) := ⟨RX3, TX3, 97, "WheelLandModel", tyX3, rfl, in_X3, by decide, rfl, by decide, tyX3_ok, nmX3, Or.inl q1326, Or.inl rfl, rfl, (fun _ => rfl), by decide +kernel⟩
theorem pa_X3_237_3 : zPA true RX3 237 3 80 (.array .int) := ⟨RX3, TX3, 97, "WheelLandModel", tyX3, rfl, in_X3, by decide, rfl, by decide, tyX3_ok, nmX3, Or.inl q1327, Or.inl rfl, rfl, (fun _ => rfl), by decide +kernel⟩
theorem pa_X3_240_3 : zPA true RX3 240 3 81 (.array .int) := ⟨RX3, TX3, 97, "WheelLandModel", tyX3, rfl, in_X3, by decide, rfl, by decide, tyX3_ok, nmX3, Or.inl q1328, Or.inl rfl, rfl, (fun _ => rfl), by decide +kernel⟩
theorem pa_X3_243_3 : zPA true RX3 243 3 82 (.array .int) := ⟨RX3, TX3, 97, "WheelLandModel", tyX3, rfl, in_X3, by decide, rfl, by decide, tyX3_ok, nmX3, Or.inl q1329, Or.inl rfl, rfl, (fun _ => rfl), by decide +kernel⟩
theorem pa_X3_246_3 : zPA true RX3 246 3 83 (.array .int) := ⟨RX3, TX3, 97, "WheelLandModel", tyX3, rfl, in_X3, by decide, rfl, by decide, tyX3_ok, nmX3, Or.inl q1330, Or.inl rfl, rfl, (fun _ => rfl), by decide +kernel⟩
theorem pa_X3_251_3 : zPA true RX3 251 3 84 (.array (.array .boolean)) := ⟨RX3, TX3, 97, "WheelLandModel", tyX3, rfl, in_X3, by decide, rfl, by decide, tyX3_ok, nmX3, Or.inl q1331, Or.inl rfl, rfl, (fun _ => rfl), by decide +kernel⟩
theorem pa_X3_253_3 : zPA true RX3 253 3 85 (.array (.array .int)) := ⟨RX3, TX3, 97, "WheelLandModel", tyX3, rfl, in_X3, by decide, rfl, by decide, tyX3_ok, nmX3, Or.inl q1332, Or.inl rfl, rfl, (fun _ => rfl), by decide +kernel⟩
theorem pa_X3_255_3 : zPA true RX3 255 3 91 (.array (.array .int)) := ⟨RX3, TX3, 97, "WheelLandModel", tyX3, rfl, in_X3, by decide, rfl, by decide, tyX3_ok, nmX3, Or.inl q1338, Or.inl rfl, rfl, (fun _ => rfl), by decide +kernel⟩
theorem pa_X3_258_3 : zPA true RX3 258 3 92 (.array .int) := ⟨RX3, TX3, 97, "WheelLandModel", tyX3, rfl, in_X3, by decide, rfl, by decide, tyX3_ok, nmX3, Or.inl q1339, Or.inl rfl, rfl, (fun _ => rfl), by decide +kernel⟩
theorem pa_X3_261_3 : zPA true RX3 261 3 93 (.array .int) := ⟨RX3, TX3, 97, "WheelLandModel", tyX3, rfl, in_X3, by decide, rfl, by decide, tyX3_ok, nmX3, Or.inl q1340, Or.inl rfl, rfl, (fun _ => rfl), by decide +kernel⟩
theorem pa_X3_264_3 : zPA true RX3 264 3 94 (.array .int) := ⟨RX3, TX3, 97, "WheelLandModel", tyX3, rfl, in_X3, by decide, rfl, by decide, tyX3_ok, nmX3, Or.inl q1341, Or.inl rfl, rfl, (fun _ => rfl), by decide +kernel⟩
theorem pa_X3_267_3 : zPA true RX3 267 3 95 (.array .int) := ⟨RX3, TX3, 97, "WheelLandModel", tyX3, rfl, in_X3, by decide, rfl, by decide, tyX3_ok, nmX3, Or.inl q1342, Or.inl rfl, rfl, (fun _ => rfl), by decide +kernel⟩
theorem lk_X3_274 : zLS RX3 274 yX3_in cX3_in 6 (some .boolean) 3 := ⟨lw_S q1547 q1548 q98 q1549, by decide +kernel, by decide +kernel, by decide +kernel⟩
theorem fa_X3_270_3 : zFA RX3 270 3 1 := ⟨RX3, TX3, 97, "WheelLandModel", rfl, in_X3, by decide, rfl, by decide, Or.inl q1248, Or.inl rfl⟩
theorem fa_X3_11_3 : zFA RX3 11 3 3 := ⟨RX3, TX3, 97, "WheelLandModel", rfl, in_X3, by decide, rfl, by decide, Or.inl q1250, Or.inl rfl⟩
theorem fa_X3_20_3 : zFA RX3 20 3 6 := ⟨RX3, TX3, 97, "WheelLandModel", rfl, in_X3, by decide, rfl, by decide, Or.inl q1253, Or.inl rfl⟩
theorem fa_X3_24_3 : zFA RX3 24 3 7 := ⟨RX3, TX3, 97, "WheelLandModel", rfl, in_X3, by decide, rfl, by decide, Or.inl q1254, Or.inl rfl⟩
theorem fa_X3_36_3 : zFA RX3 36 3 11 := ⟨RX3, TX3, 97, "WheelLandModel", rfl, in_X3, by decide, rfl, by decide, Or.inl q1258, Or.inl rfl⟩
theorem fa_X3_39_3 : zFA RX3 39 3 12 := ⟨RX3, TX3, 97, "WheelLandModel", rfl, in_X3, by decide, rfl, by decide, Or.inl q1259, Or.inl rfl⟩
theorem fa_X3_286_3 : zFA RX3 286 3 0 := ⟨RX3, TX3, 97, "WheelLandModel", rfl, in_X3, by decide, rfl, by decide, Or.inl q1247, Or.inl rfl⟩
theorem pa_X3_270_3 : zPA false RX3 270 3 1 (.int) := ⟨RX3, TX3, 97, "WheelLandModel", tyX3, rfl, in_X3, by decide, rfl, by decide, tyX3_ok, nmX3, Or.inl q1248, Or.inl rfl, rfl, (fun h => by cases h), by decide +kernel⟩
theorem fa_X3_17_3 : zFA RX3 17 3 5 := ⟨RX3, TX3, 97, "WheelLandModel", rfl, in_X3, by decide, rfl, by decide, Or.inl q1252, Or.inl rfl⟩
theorem lk_X3_289 : zLV RX3 289 yX3_isVillage cX3_isVillage 2 (some .boolean) 1 := ⟨lw_V q1555 q1557 qs44 q98 q1558, by decide +kernel, by decide +kernel, by decide +kernel⟩
theorem fa_X3_14_3 : zFA RX3 14 3 4 := ⟨RX3, TX3, 97, "WheelLandModel", rfl, in_X3, by decide, rfl, by decide, Or.inl q1251, Or.inl rfl⟩
theorem fa_X3_118_3 : zFA RX3 118 3 39 := ⟨RX3, TX3, 97, "WheelLandModel", rfl, in_X3, by decide, rfl, by decide, Or.inl q1286, Or.inl rfl⟩
theorem lk_X3_293 : zLV RX3 293 yX3_farOf cX3_farOf 6 (some .int) 2 := ⟨lw_V q1563 q1565 qs45 q98 q1566, by decide +kernel, by decide +kernel, by decide +kernel⟩
theorem fa_X3_278_3 : zFA RX3 278 3 2 := ⟨RX3, TX3, 97, "WheelLandModel", rfl, in_X3, by decide, rfl, by decide, Or.inl q1249, Or.inl rfl⟩
theorem fa_X3_63_3 : zFA RX3 63 3 20 := ⟨RX3, TX3, 97, "WheelLandModel", rfl, in_X3, by decide, rfl, by decide, Or.inl q1267, Or.inl rfl⟩
theorem fa_X3_66_3 : zFA RX3 66 3 21 := ⟨RX3, TX3, 97, "WheelLandModel", rfl, in_X3, by decide, rfl, by decide, Or.inl q1268, Or.inl rfl⟩
theorem fa_X3_69_3 : zFA RX3 69 3 22 := ⟨RX3, TX3, 97, "WheelLandModel", rfl, in_X3, by decide, rfl, by decide, Or.inl q1269, Or.inl rfl⟩
theorem fa_X3_72_3 : zFA RX3 72 3 23 := ⟨RX3, TX3, 97, "WheelLandModel", rfl, in_X3, by decide, rfl, by decide, Or.inl q1270, Or.inl rfl⟩
theorem fa_X3_75_3 : zFA RX3 75 3 24 := ⟨RX3, TX3, 97, "WheelLandModel", rfl, in_X3, by decide, rfl, by decide, Or.inl q1271, Or.inl rfl⟩
theorem fa_X3_81_3 : zFA RX3 81 3 26 := ⟨RX3, TX3, 97, "WheelLandModel", rfl, in_X3, by decide, rfl, by decide, Or.inl q1273, Or.inl rfl⟩
theorem pa_X3_278_3 : zPA false RX3 278 3 2 (.int) := ⟨RX3, TX3, 97, "WheelLandModel", tyX3, rfl, in_X3, by decide, rfl, by decide, tyX3_ok, nmX3, Or.inl q1249, Or.inl rfl, rfl, (fun h => by cases h), by decide +kernel⟩
theorem lk_X3_297 : zLV RX3 297 yX3_isHouse cX3_isHouse 2 (some .boolean) 1 := ⟨lw_V q1575 q1577 qs46 q98 q1578, by decide +kernel, by decide +kernel, by decide +kernel⟩
theorem lk_X3_300 : zLV RX3 300 yX3_hasLoom cX3_hasLoom 2 (some .boolean) 1 := ⟨lw_V q1579 q1581 qs47 q98 q1582, by decide +kernel, by decide +kernel, by decide +kernel⟩
theorem fa_X3_93_3 : zFA RX3 93 3 30 := ⟨RX3, TX3, 97, "WheelLandModel", rfl, in_X3, by decide, rfl, by decide, Or.inl q1277, Or.inl rfl⟩
theorem fa_X3_96_3 : zFA RX3 96 3 31 := ⟨RX3, TX3, 97, "WheelLandModel", rfl, in_X3, by decide, rfl, by decide, Or.inl q1278, Or.inl rfl⟩
theorem fa_X3_78_3 : zFA RX3 78 3 25 := ⟨RX3, TX3, 97, "WheelLandModel", rfl, in_X3, by decide, rfl, by decide, Or.inl q1272, Or.inl rfl⟩
theorem pa_X3_314_3 : zPA false RX3 314 3 41 (.int) := ⟨RX3, TX3, 97, "WheelLandModel", tyX3, rfl, in_X3, by decide, rfl, by decide, tyX3_ok, nmX3, Or.inl q1288, Or.inl rfl, rfl, (fun h => by cases h), by decide +kernel⟩
theorem lk_X3_317 : zLV RX3 317 yX3_feeds cX3_feeds 3 (none) 1 := ⟨lw_V q1605 q1607 qs48 q98 q1608, by decide +kernel, by decide +kernel, by decide +kernel⟩
theorem pa_X3_354_3 : zPA false RX3 354 3 47 (.int) := ⟨RX3, TX3, 97, "WheelLandModel", tyX3, rfl, in_X3, by decide, rfl, by decide, tyX3_ok, nmX3, Or.inl q1294, Or.inl rfl, rfl, (fun h => by cases h), by decide +kernel⟩
theorem fa_X3_151_3 : zFA RX3 151 3 54 := ⟨RX3, TX3, 97, "WheelLandModel", rfl, in_X3, by decide, rfl, by decide, Or.inl q1301, Or.inl rfl⟩
theorem fa_X3_130_3 : zFA RX3 130 3 49 := ⟨RX3, TX3, 97, "WheelLandModel", rfl, in_X3, by decide, rfl, by decide, Or.inl q1296, Or.inl rfl⟩
theorem lk_X3_407 : zLV RX3 407 yX3_clauses cX3_clauses 2 (some .boolean) 0 := ⟨lw_V q1631 q1633 qs51 q98 q1634, by decide +kernel, by decide +kernel, by decide +kernel⟩
theorem lk_X3_410 : zLV RX3 410 yX3_reads cX3_reads 2 (none) 0 := ⟨lw_V q1617 q1619 qs49 q98 q1620, by decide +kernel, by decide +kernel, by decide +kernel⟩
theorem fa_X3_413_3 : zFA RX3 413 3 52 := ⟨RX3, TX3, 97, "WheelLandModel", rfl, in_X3, by decide, rfl, by decide, Or.inl q1299, Or.inl rfl⟩
theorem pa_X3_413_3 : zPA false RX3 413 3 52 (.int) := ⟨RX3, TX3, 97, "WheelLandModel", tyX3, rfl, in_X3, by decide, rfl, by decide, tyX3_ok, nmX3, Or.inl q1299, Or.inl rfl, rfl, (fun h => by cases h), by decide +kernel⟩
theorem fa_X3_418_3 : zFA RX3 418 3 53 := ⟨RX3, TX3, 97, "WheelLandModel", rfl, in_X3, by decide, rfl, by decide, Or.inl q1300, Or.inl rfl⟩
theorem fa_X3_133_3 : zFA RX3 133 3 50 := ⟨RX3, TX3, 97, "WheelLandModel", rfl, in_X3, by decide, rfl, by decide, Or.inl q1297, Or.inl rfl⟩
theorem fa_X3_136_3 : zFA RX3 136 3 51 := ⟨RX3, TX3, 97, "WheelLandModel", rfl, in_X3, by decide, rfl, by decide, Or.inl q1298, Or.inl rfl⟩
theorem pa_X3_418_3 : zPA false RX3 418 3 53 (.int) := ⟨RX3, TX3, 97, "WheelLandModel", tyX3, rfl, in_X3, by decide, rfl, by decide, tyX3_ok, nmX3, Or.inl q1300, Or.inl rfl, rfl, (fun h => by cases h), by decide +kernel⟩
theorem lk_X3_421 : zLV RX3 421 yX3_sheetFor cX3_sheetFor 5 (some .int) 2 := ⟨lw_V q1707 q1709 qs65 q98 q1710, by decide +kernel, by decide +kernel, by decide +kernel⟩
theorem fa_X3_451_3 : zFA RX3 451 3 64 := ⟨RX3, TX3, 97, "WheelLandModel", rfl, in_X3, by decide, rfl, by decide, Or.inl q1311, Or.inl rfl⟩
theorem lk_X3_466 : zLV RX3 466 yX3_isLot cX3_isLot 2 (some .boolean) 1 := ⟨lw_V q1715 q1717 qs66 q98 q1718, by decide +kernel, by decide +kernel, by decide +kernel⟩
theorem fa_X3_185_3 : zFA RX3 185 3 58 := ⟨RX3, TX3, 97, "WheelLandModel", rfl, in_X3, by decide, rfl, by decide, Or.inl q1305, Or.inl rfl⟩
theorem fa_X3_188_3 : zFA RX3 188 3 59 := ⟨RX3, TX3, 97, "WheelLandModel", rfl, in_X3, by decide, rfl, by decide, Or.inl q1306, Or.inl rfl⟩
theorem fa_X3_191_3 : zFA RX3 191 3 60 := ⟨RX3, TX3, 97, "WheelLandModel", rfl, in_X3, by decide, rfl, by decide, Or.inl q1307, Or.inl rfl⟩
theorem fa_X3_194_3 : zFA RX3 194 3 61 := ⟨RX3, TX3, 97, "WheelLandModel", rfl, in_X3, by decide, rfl, by decide, Or.inl q1308, Or.inl rfl⟩
theorem fa_X3_197_3 : zFA RX3 197 3 62 := ⟨RX3, TX3, 97, "WheelLandModel", rfl, in_X3, by decide, rfl, by decide, Or.inl q1309, Or.inl rfl⟩
theorem fa_X3_200_3 : zFA RX3 200 3 63 := ⟨RX3, TX3, 97, "WheelLandModel", rfl, in_X3, by decide, rfl, by decide, Or.inl q1310, Or.inl rfl⟩
theorem fa_X3_105_3 : zFA RX3 105 3 34 := ⟨RX3, TX3, 97, "WheelLandModel", rfl, in_X3, by decide, rfl, by decide, Or.inl q1281, Or.inl rfl⟩
theorem fa_X3_109_3 : zFA RX3 109 3 35 := ⟨RX3, TX3, 97, "WheelLandModel", rfl, in_X3, by decide, rfl, by decide, Or.inl q1282, Or.inl rfl⟩
theorem fa_X3_469_3 : zFA RX3 469 3 69 := ⟨RX3, TX3, 97, "WheelLandModel", rfl, in_X3, by decide, rfl, by decide, Or.inl q1316, Or.inl rfl⟩
theorem pa_X3_469_3 : zPA false RX3 469 3 69 (.int) := ⟨RX3, TX3, 97, "WheelLandModel", tyX3, rfl, in_X3, by decide, rfl, by decide, tyX3_ok, nmX3, Or.inl q1316, Or.inl rfl, rfl, (fun h => by cases h), by decide +kernel⟩
theorem lk_X3_472 : zLV RX3 472 yX3_owing cX3_owing 4 (some .int) 1 := ⟨lw_V q1723 q1725 qs67 q98 q1726, by decide +kernel, by decide +kernel, by decide +kernel⟩
theorem fa_X3_115_3 : zFA RX3 115 3 37 := ⟨RX3, TX3, 97, "WheelLandModel", rfl, in_X3, by decide, rfl, by decide, Or.inl q1284, Or.inl rfl⟩
theorem fa_X3_112_3 : zFA RX3 112 3 36 := ⟨RX3, TX3, 97, "WheelLandModel", rfl, in_X3, by decide, rfl, by decide, Or.inl q1283, Or.inl rfl⟩
theorem lk_X3_448 : zLS RX3 448 yX3_least cX3_least 1 (some .int) 1 := ⟨lw_S q1731 q1732 q98 q1733, by decide +kernel, by decide +kernel, by decide +kernel⟩
theorem fa_X3_179_3 : zFA RX3 179 3 56 := ⟨RX3, TX3, 97, "WheelLandModel", rfl, in_X3, by decide, rfl, by decide, Or.inl q1303, Or.inl rfl⟩
theorem lk_X3_436 : zLS RX3 436 yX3_season cX3_season 1 (some .int) 1 := ⟨lw_S q1768 q1769 q98 q1770, by decide +kernel, by decide +kernel, by decide +kernel⟩
theorem lk_X3_439 : zLV RX3 439 yX3_clears cX3_clears 2 (none) 0 := ⟨lw_V q1764 q1766 qs74 q98 q1767, by decide +kernel, by decide +kernel, by decide +kernel⟩
theorem lk_X3_442 : zLV RX3 442 yX3_asksOf_3 cX3_asksOf_3 2 (none) 1 := ⟨lw_V q1760 q1762 qs73 q98 q1763, by decide +kernel, by decide +kernel, by decide +kernel⟩
theorem lk_X3_475 : zLV RX3 475 yX3_asksOf_2 cX3_asksOf_2 7 (none) 6 := ⟨lw_V q1756 q1758 qs72 q98 q1759, by decide +kernel, by decide +kernel, by decide +kernel⟩
theorem lk_X3_428 : zLS RX3 428 yX3_brought cX3_brought 2 (some .int) 1 := ⟨lw_S q1778 q1779 q98 q1780, by decide +kernel, by decide +kernel, by decide +kernel⟩
theorem fa_X3_182_3 : zFA RX3 182 3 57 := ⟨RX3, TX3, 97, "WheelLandModel", rfl, in_X3, by decide, rfl, by decide, Or.inl q1304, Or.inl rfl⟩
theorem lk_X3_432 : zLS RX3 432 yX3_done cX3_done 3 (some .int) 3 := ⟨lw_S q1775 q1776 q98 q1777, by decide +kernel, by decide +kernel, by decide +kernel⟩
theorem lk_X3_478 : zLV RX3 478 yX3_asksOf cX3_asksOf 4 (none) 3 := ⟨lw_V q1752 q1754 qs71 q98 q1755, by decide +kernel, by decide +kernel, by decide +kernel⟩
theorem lk_X3_445 : zLV RX3 445 yX3_tells cX3_tells 7 (some .int) 1 := ⟨lw_V q1771 q1773 qs75 q98 q1774, by decide +kernel, by decide +kernel, by decide +kernel⟩
theorem lk_X3_481 : zLV RX3 481 yX3_barOf cX3_barOf 4 (some .int) 3 := ⟨lw_V q1748 q1750 qs70 q98 q1751, by decide +kernel, by decide +kernel, by decide +kernel⟩
theorem fa_X3_102_3 : zFA RX3 102 3 33 := ⟨RX3, TX3, 97, "WheelLandModel", rfl, in_X3, by decide, rfl, by decide, Or.inl q1280, Or.inl rfl⟩
theorem lk_X3_488 : zLV RX3 488 yX3_canAsk cX3_canAsk 4 (some .boolean) 3 := ⟨lw_V q1738 q1740 qs68 q98 q1741, by decide +kernel, by decide +kernel, by decide +kernel⟩
theorem lk_X3_492 : zLV RX3 492 yX3_barred cX3_barred 5 (some .int) 3 := ⟨lw_V q1744 q1746 qs69 q98 q1747, by decide +kernel, by decide +kernel, by decide +kernel⟩
theorem fa_X3_495_3 : zFA RX3 495 3 78 := ⟨RX3, TX3, 97, "WheelLandModel", rfl, in_X3, by decide, rfl, by decide, Or.inl q1325, Or.inl rfl⟩
theorem fa_X3_230_3 : zFA RX3 230 3 77 := ⟨RX3, TX3, 97, "WheelLandModel", rfl, in_X3, by decide, rfl, by decide, Or.inl q1324, Or.inl rfl⟩
theorem fa_X3_498_3 : zFA RX3 498 3 70 := ⟨RX3, TX3, 97, "WheelLandModel", rfl, in_X3, by decide, rfl, by decide, Or.inl q1317, Or.inl rfl⟩
theorem pa_X3_498_3 : zPA false RX3 498 3 70 (.int) := ⟨RX3, TX3, 97, "WheelLandModel", tyX3, rfl, in_X3, by decide, rfl, by decide, tyX3_ok, nmX3, Or.inl q1317, Or.inl rfl, rfl, (fun h => by cases h), by decide +kernel⟩
theorem fa_X3_215_3 : zFA RX3 215 3 72 := ⟨RX3, TX3, 97, "WheelLandModel", rfl, in_X3, by decide, rfl, by decide, Or.inl q1319, Or.inl rfl⟩
theorem fa_X3_218_3 : zFA RX3 218 3 73 := ⟨RX3, TX3, 97, "WheelLandModel", rfl, in_X3, by decide, rfl, by decide, Or.inl q1320, Or.inl rfl⟩
theorem fa_X3_221_3 : zFA RX3 221 3 74 := ⟨RX3, TX3, 97, "WheelLandModel", rfl, in_X3, by decide, rfl, by decide, Or.inl q1321, Or.inl rfl⟩
theorem fa_X3_224_3 : zFA RX3 224 3 75 := ⟨RX3, TX3, 97, "WheelLandModel", rfl, in_X3, by decide, rfl, by decide, Or.inl q1322, Or.inl rfl⟩
theorem fa_X3_227_3 : zFA RX3 227 3 76 := ⟨RX3, TX3, 97, "WheelLandModel", rfl, in_X3, by decide, rfl, by decide, Or.inl q1323, Or.inl rfl⟩
theorem pa_X3_495_3 : zPA false RX3 495 3 78 (.int) := ⟨RX3, TX3, 97, "WheelLandModel", tyX3, rfl, in_X3, by decide, rfl, by decide, tyX3_ok, nmX3, Or.inl q1325, Or.inl rfl, rfl, (fun h => by cases h), by decide +kernel⟩
theorem lk_X3_501 : zLV RX3 501 yX3_isCloth cX3_isCloth 2 (some .boolean) 1 := ⟨lw_V q1791 q1793 qs76 q98 q1794, by decide +kernel, by decide +kernel, by decide +kernel⟩
theorem fa_X3_234_3 : zFA RX3 234 3 79 := ⟨RX3, TX3, 97, "WheelLandModel", rfl, in_X3, by decide, rfl, by decide, Or.inl q1326, Or.inl rfl⟩
theorem pa_X3_504_3 : zPA false RX3 504 3 86 (.int) := ⟨RX3, TX3, 97, "WheelLandModel", tyX3, rfl, in_X3, by decide, rfl, by decide, tyX3_ok, nmX3, Or.inl q1333, Or.inl rfl, rfl, (fun h => by cases h), by decide +kernel⟩
theorem pa_X3_507_3 : zPA false RX3 507 3 87 (.int) := ⟨RX3, TX3, 97, "WheelLandModel", tyX3, rfl, in_X3, by decide, rfl, by decide, tyX3_ok, nmX3, Or.inl q1334, Or.inl rfl, rfl, (fun h => by cases h), by decide +kernel⟩
theorem lk_X3_525 : zLV RX3 525 yX3_handsFor cX3_handsFor 4 (some .boolean) 1 := ⟨lw_V q1807 q1809 qs77 q98 q1810, by decide +kernel, by decide +kernel, by decide +kernel⟩
theorem fa_X3_27_3 : zFA RX3 27 3 8 := ⟨RX3, TX3, 97, "WheelLandModel", rfl, in_X3, by decide, rfl, by decide, Or.inl q1255, Or.inl rfl⟩
theorem fa_X3_30_3 : zFA RX3 30 3 9 := ⟨RX3, TX3, 97, "WheelLandModel", rfl, in_X3, by decide, rfl, by decide, Or.inl q1256, Or.inl rfl⟩
theorem fa_X3_51_3 : zFA RX3 51 3 16 := ⟨RX3, TX3, 97, "WheelLandModel", rfl, in_X3, by decide, rfl, by decide, Or.inl q1263, Or.inl rfl⟩
theorem fa_X3_33_3 : zFA RX3 33 3 10 := ⟨RX3, TX3, 97, "WheelLandModel", rfl, in_X3, by decide, rfl, by decide, Or.inl q1257, Or.inl rfl⟩
theorem fa_X3_42_3 : zFA RX3 42 3 13 := ⟨RX3, TX3, 97, "WheelLandModel", rfl, in_X3, by decide, rfl, by decide, Or.inl q1260, Or.inl rfl⟩
theorem lk_X3_534 : zLV RX3 534 yX3_dutyAt cX3_dutyAt 2 (some .int) 1 := ⟨lw_V q1846 q1848 qs80 q98 q1849, by decide +kernel, by decide +kernel, by decide +kernel⟩
theorem lk_X3_537 : zLV RX3 537 yX3_canHand cX3_canHand 3 (some .boolean) 1 := ⟨lw_V q1850 q1852 qs81 q98 q1853, by decide +kernel, by decide +kernel, by decide +kernel⟩
theorem lk_X3_540 : zLV RX3 540 yX3_canMill cX3_canMill 3 (some .boolean) 1 := ⟨lw_V q1854 q1856 qs82 q98 q1857, by decide +kernel, by decide +kernel, by decide +kernel⟩
theorem fa_X3_48_3 : zFA RX3 48 3 15 := ⟨RX3, TX3, 97, "WheelLandModel", rfl, in_X3, by decide, rfl, by decide, Or.inl q1262, Or.inl rfl⟩
theorem fa_X3_54_3 : zFA RX3 54 3 17 := ⟨RX3, TX3, 97, "WheelLandModel", rfl, in_X3, by decide, rfl, by decide, Or.inl q1264, Or.inl rfl⟩
theorem lk_X3_549 : zLV RX3 549 yX3_falseOf cX3_falseOf 3 (some .int) 2 := ⟨lw_V q1866 q1868 qs83 q98 q1869, by decide +kernel, by decide +kernel, by decide +kernel⟩
theorem fa_X3_206_3 : zFA RX3 206 3 66 := ⟨RX3, TX3, 97, "WheelLandModel", rfl, in_X3, by decide, rfl, by decide, Or.inl q1313, Or.inl rfl⟩
theorem fa_X3_209_3 : zFA RX3 209 3 67 := ⟨RX3, TX3, 97, "WheelLandModel", rfl, in_X3, by decide, rfl, by decide, Or.inl q1314, Or.inl rfl⟩
theorem fa_X3_212_3 : zFA RX3 212 3 68 := ⟨RX3, TX3, 97, "WheelLandModel", rfl, in_X3, by decide, rfl, by decide, Or.inl q1315, Or.inl rfl⟩
theorem fa_X3_203_3 : zFA RX3 203 3 65 := ⟨RX3, TX3, 97, "WheelLandModel", rfl, in_X3, by decide, rfl, by decide, Or.inl q1312, Or.inl rfl⟩
theorem lk_X3_454 : zLV RX3 454 yX3_asIs cX3_asIs 2 (none) 0 := ⟨lw_V q1887 q1889 qs86 q98 q1890, by decide +kernel, by decide +kernel, by decide +kernel⟩
theorem lk_X3_457 : zLV RX3 457 yX3_spins cX3_spins 7 (some .int) 0 := ⟨lw_V q1891 q1893 qs87 q98 q1894, by decide +kernel, by decide +kernel, by decide +kernel⟩
theorem fa_X3_255_3 : zFA RX3 255 3 91 := ⟨RX3, TX3, 97, "WheelLandModel", rfl, in_X3, by decide, rfl, by decide, Or.inl q1338, Or.inl rfl⟩
theorem fa_X3_460_3 : zFA RX3 460 3 71 := ⟨RX3, TX3, 97, "WheelLandModel", rfl, in_X3, by decide, rfl, by decide, Or.inl q1318, Or.inl rfl⟩
theorem pa_X3_460_3 : zPA false RX3 460 3 71 (.int) := ⟨RX3, TX3, 97, "WheelLandModel", tyX3, rfl, in_X3, by decide, rfl, by decide, tyX3_ok, nmX3, Or.inl q1318, Or.inl rfl, rfl, (fun h => by cases h), by decide +kernel⟩
theorem lk_X3_463 : zLV RX3 463 yX3_strengthOf cX3_strengthOf 3 (some .int) 2 := ⟨lw_V q1895 q1897 qs88 q98 q1898, by decide +kernel, by decide +kernel, by decide +kernel⟩
theorem pa_X3_451_3 : zPA false RX3 451 3 64 (.int) := ⟨RX3, TX3, 97, "WheelLandModel", tyX3, rfl, in_X3, by decide, rfl, by decide, tyX3_ok, nmX3, Or.inl q1311, Or.inl rfl, rfl, (fun h => by cases h), by decide +kernel⟩
theorem lk_X3_543 : zLV RX3 543 yX3_likes cX3_likes 4 (some .int) 1 := ⟨lw_V q1903 q1843 q1844 q98 q1845, by decide +kernel, by decide +kernel, by decide +kernel⟩
theorem fa_X3_84_3 : zFA RX3 84 3 27 := ⟨RX3, TX3, 97, "WheelLandModel", rfl, in_X3, by decide, rfl, by decide, Or.inl q1274, Or.inl rfl⟩
theorem fa_X3_45_3 : zFA RX3 45 3 14 := ⟨RX3, TX3, 97, "WheelLandModel", rfl, in_X3, by decide, rfl, by decide, Or.inl q1261, Or.inl rfl⟩
theorem fa_X3_87_3 : zFA RX3 87 3 28 := ⟨RX3, TX3, 97, "WheelLandModel", rfl, in_X3, by decide, rfl, by decide, Or.inl q1275, Or.inl rfl⟩
theorem fa_X3_546_3 : zFA RX3 546 3 38 := ⟨RX3, TX3, 97, "WheelLandModel", rfl, in_X3, by decide, rfl, by decide, Or.inl q1285, Or.inl rfl⟩
theorem pa_X3_546_3 : zPA false RX3 546 3 38 (.int) := ⟨RX3, TX3, 97, "WheelLandModel", tyX3, rfl, in_X3, by decide, rfl, by decide, tyX3_ok, nmX3, Or.inl q1285, Or.inl rfl, rfl, (fun h => by cases h), by decide +kernel⟩
theorem fa_X3_90_3 : zFA RX3 90 3 29 := ⟨RX3, TX3, 97, "WheelLandModel", rfl, in_X3, by decide, rfl, by decide, Or.inl q1276, Or.inl rfl⟩
theorem fa_X3_57_3 : zFA RX3 57 3 18 := ⟨RX3, TX3, 97, "WheelLandModel", rfl, in_X3, by decide, rfl, by decide, Or.inl q1265, Or.inl rfl⟩
theorem fa_X3_60_3 : zFA RX3 60 3 19 := ⟨RX3, TX3, 97, "WheelLandModel", rfl, in_X3, by decide, rfl, by decide, Or.inl q1266, Or.inl rfl⟩
theorem fa_X3_258_3 : zFA RX3 258 3 92 := ⟨RX3, TX3, 97, "WheelLandModel", rfl, in_X3, by decide, rfl, by decide, Or.inl q1339, Or.inl rfl⟩
theorem lk_X3_553 : zLV RX3 553 yX3_lays cX3_lays 3 (none) 0 := ⟨lw_V q1883 q1885 qs85 q98 q1886, by decide +kernel, by decide +kernel, by decide +kernel⟩
theorem lk_X3_556 : zLV RX3 556 yX3_buys cX3_buys 5 (none) 1 := ⟨lw_V q1899 q1901 qs89 q98 q1902, by decide +kernel, by decide +kernel, by decide +kernel⟩
theorem lk_X3_559 : zLV RX3 559 yX3_seasons cX3_seasons 2 (none) 0 := ⟨lw_V q1904 q1906 qs90 q98 q1907, by decide +kernel, by decide +kernel, by decide +kernel⟩
theorem lk_X3_562 : zLV RX3 562 yX3_goRound cX3_goRound 3 (none) 0 := ⟨lw_V q1908 q1910 qs91 q98 q1911, by decide +kernel, by decide +kernel, by decide +kernel⟩
theorem pa_X3_286_3 : zPA false RX3 286 3 0 (.int) := ⟨RX3, TX3, 97, "WheelLandModel", tyX3, rfl, in_X3, by decide, rfl, by decide, tyX3_ok, nmX3, Or.inl q1247, Or.inl rfl, rfl, (fun h => by cases h), by decide +kernel⟩
theorem lk_X3_567 : zLV RX3 567 yX3_week cX3_week 2 (none) 0 := ⟨lw_V q1879 q1881 qs84 q98 q1882, by decide +kernel, by decide +kernel, by decide +kernel⟩
theorem fa_X3_569_3 : zFA RX3 569 3 96 := ⟨RX3, TX3, 97, "WheelLandModel", rfl, in_X3, by decide, rfl, by decide, Or.inl q1343, Or.inl rfl⟩
theorem fa_X3_261_3 : zFA RX3 261 3 93 := ⟨RX3, TX3, 97, "WheelLandModel", rfl, in_X3, by decide, rfl, by decide, Or.inl q1340, Or.inl rfl⟩
theorem fa_X3_264_3 : zFA RX3 264 3 94 := ⟨RX3, TX3, 97, "WheelLandModel", rfl, in_X3, by decide, rfl, by decide, Or.inl q1341, Or.inl rfl⟩
theorem fa_X3_267_3 : zFA RX3 267 3 95 := ⟨RX3, TX3, 97, "WheelLandModel", rfl, in_X3, by decide, rfl, by decide, Or.inl q1342, Or.inl rfl⟩
theorem pa_X3_569_3 : zPA false RX3 569 3 96 (.int) := ⟨RX3, TX3, 97, "WheelLandModel", tyX3, rfl, in_X3, by decide, rfl, by decide, tyX3_ok, nmX3, Or.inl q1343, Or.inl rfl, rfl, (fun h => by cases h), by decide +kernel⟩
theorem lk_X3_572 : zLV RX3 572 yX3_spunWith cX3_spunWith 5 (some .int) 1 := ⟨lw_V q1924 q1926 qs92 q98 q1927, by decide +kernel, by decide +kernel, by decide +kernel⟩
theorem lk_X3_575 : zLV RX3 575 yX3_costOf cX3_costOf 4 (some .int) 1 := ⟨lw_V q1928 q1930 qs93 q98 q1931, by decide +kernel, by decide +kernel, by decide +kernel⟩
