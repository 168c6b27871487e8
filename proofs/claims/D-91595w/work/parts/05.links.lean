set_option maxRecDepth 100000
theorem fl_X6_157_14 : FLk RX6 157 TX6 1 := Or.inl ⟨"ClogHouseModel", q1187, Or.inl rfl⟩
theorem fl_X6_9_14 : FLk RX6 9 TX6 2 := Or.inl ⟨"ClogHouseModel", q1188, Or.inl rfl⟩
theorem fl_X6_13_14 : FLk RX6 13 TX6 3 := Or.inl ⟨"ClogHouseModel", q1189, Or.inl rfl⟩
theorem fl_X6_16_14 : FLk RX6 16 TX6 4 := Or.inl ⟨"ClogHouseModel", q1190, Or.inl rfl⟩
theorem fl_X6_165_14 : FLk RX6 165 TX6 24 := Or.inl ⟨"ClogHouseModel", q1210, Or.inl rfl⟩
theorem fl_X6_40_14 : FLk RX6 40 TX6 12 := Or.inl ⟨"ClogHouseModel", q1198, Or.inl rfl⟩
theorem fl_X6_43_14 : FLk RX6 43 TX6 13 := Or.inl ⟨"ClogHouseModel", q1199, Or.inl rfl⟩
theorem fl_X6_46_14 : FLk RX6 46 TX6 14 := Or.inl ⟨"ClogHouseModel", q1200, Or.inl rfl⟩
theorem fl_X6_58_14 : FLk RX6 58 TX6 18 := Or.inl ⟨"ClogHouseModel", q1204, Or.inl rfl⟩
theorem fl_X6_102_14 : FLk RX6 102 TX6 40 := Or.inl ⟨"ClogHouseModel", q1226, Or.inl rfl⟩
theorem fl_X6_19_14 : FLk RX6 19 TX6 5 := Or.inl ⟨"ClogHouseModel", q1191, Or.inl rfl⟩
theorem fl_X6_74_14 : FLk RX6 74 TX6 23 := Or.inl ⟨"ClogHouseModel", q1209, Or.inl rfl⟩
theorem fl_X6_22_14 : FLk RX6 22 TX6 6 := Or.inl ⟨"ClogHouseModel", q1192, Or.inl rfl⟩
theorem fl_X6_25_14 : FLk RX6 25 TX6 7 := Or.inl ⟨"ClogHouseModel", q1193, Or.inl rfl⟩
theorem fl_X6_28_14 : FLk RX6 28 TX6 8 := Or.inl ⟨"ClogHouseModel", q1194, Or.inl rfl⟩
theorem fl_X6_31_14 : FLk RX6 31 TX6 9 := Or.inl ⟨"ClogHouseModel", q1195, Or.inl rfl⟩
theorem fl_X6_37_14 : FLk RX6 37 TX6 11 := Or.inl ⟨"ClogHouseModel", q1197, Or.inl rfl⟩
theorem fl_X6_34_14 : FLk RX6 34 TX6 10 := Or.inl ⟨"ClogHouseModel", q1196, Or.inl rfl⟩
theorem fl_X6_49_14 : FLk RX6 49 TX6 15 := Or.inl ⟨"ClogHouseModel", q1201, Or.inl rfl⟩
theorem fl_X6_52_14 : FLk RX6 52 TX6 16 := Or.inl ⟨"ClogHouseModel", q1202, Or.inl rfl⟩
theorem fl_X6_55_14 : FLk RX6 55 TX6 17 := Or.inl ⟨"ClogHouseModel", q1203, Or.inl rfl⟩
theorem fl_X6_61_14 : FLk RX6 61 TX6 19 := Or.inl ⟨"ClogHouseModel", q1205, Or.inl rfl⟩
theorem fl_X6_64_14 : FLk RX6 64 TX6 20 := Or.inl ⟨"ClogHouseModel", q1206, Or.inl rfl⟩
theorem fl_X6_67_14 : FLk RX6 67 TX6 21 := Or.inl ⟨"ClogHouseModel", q1207, Or.inl rfl⟩
theorem fl_X6_217_14 : FLk RX6 217 TX6 29 := Or.inl ⟨"ClogHouseModel", q1215, Or.inl rfl⟩
theorem fl_X6_77_14 : FLk RX6 77 TX6 25 := Or.inl ⟨"ClogHouseModel", q1211, Or.inl rfl⟩
theorem fl_X6_220_14 : FLk RX6 220 TX6 30 := Or.inl ⟨"ClogHouseModel", q1216, Or.inl rfl⟩
theorem fl_X6_223_14 : FLk RX6 223 TX6 31 := Or.inl ⟨"ClogHouseModel", q1217, Or.inl rfl⟩
theorem fl_X6_229_14 : FLk RX6 229 TX6 32 := Or.inl ⟨"ClogHouseModel", q1218, Or.inl rfl⟩
theorem fl_X6_226_14 : FLk RX6 226 TX6 33 := Or.inl ⟨"ClogHouseModel", q1219, Or.inl rfl⟩
theorem fl_X6_80_14 : FLk RX6 80 TX6 26 := Or.inl ⟨"ClogHouseModel", q1212, Or.inl rfl⟩
theorem fl_X6_290_14 : FLk RX6 290 TX6 34 := Or.inl ⟨"ClogHouseModel", q1220, Or.inl rfl⟩
theorem fl_X6_83_14 : FLk RX6 83 TX6 27 := Or.inl ⟨"ClogHouseModel", q1213, Or.inl rfl⟩
theorem fl_X6_86_14 : FLk RX6 86 TX6 28 := Or.inl ⟨"ClogHouseModel", q1214, Or.inl rfl⟩
theorem fl_X6_89_14 : FLk RX6 89 TX6 35 := Or.inl ⟨"ClogHouseModel", q1221, Or.inl rfl⟩
theorem fl_X6_307_14 : FLk RX6 307 TX6 37 := Or.inl ⟨"ClogHouseModel", q1223, Or.inl rfl⟩
theorem fl_X6_92_14 : FLk RX6 92 TX6 36 := Or.inl ⟨"ClogHouseModel", q1222, Or.inl rfl⟩
theorem fl_X6_319_14 : FLk RX6 319 TX6 48 := Or.inl ⟨"ClogHouseModel", q1234, Or.inl rfl⟩
theorem fl_X6_95_14 : FLk RX6 95 TX6 38 := Or.inl ⟨"ClogHouseModel", q1224, Or.inl rfl⟩
theorem fl_X6_330_14 : FLk RX6 330 TX6 0 := Or.inl ⟨"ClogHouseModel", q1186, Or.inl rfl⟩
theorem fl_X6_70_14 : FLk RX6 70 TX6 22 := Or.inl ⟨"ClogHouseModel", q1208, Or.inl rfl⟩
theorem fl_X6_117_14 : FLk RX6 117 TX6 45 := Or.inl ⟨"ClogHouseModel", q1231, Or.inl rfl⟩
theorem fl_X6_108_14 : FLk RX6 108 TX6 42 := Or.inl ⟨"ClogHouseModel", q1228, Or.inl rfl⟩
theorem fl_X6_111_14 : FLk RX6 111 TX6 43 := Or.inl ⟨"ClogHouseModel", q1229, Or.inl rfl⟩
theorem fl_X6_123_14 : FLk RX6 123 TX6 47 := Or.inl ⟨"ClogHouseModel", q1233, Or.inl rfl⟩
theorem fl_X6_120_14 : FLk RX6 120 TX6 46 := Or.inl ⟨"ClogHouseModel", q1232, Or.inl rfl⟩
theorem fl_X6_114_14 : FLk RX6 114 TX6 44 := Or.inl ⟨"ClogHouseModel", q1230, Or.inl rfl⟩
theorem fl_X6_99_14 : FLk RX6 99 TX6 39 := Or.inl ⟨"ClogHouseModel", q1225, Or.inl rfl⟩
theorem fl_X6_105_14 : FLk RX6 105 TX6 41 := Or.inl ⟨"ClogHouseModel", q1227, Or.inl rfl⟩
theorem fl_X6_375_14 : FLk RX6 375 TX6 53 := Or.inl ⟨"ClogHouseModel", q1239, Or.inl rfl⟩
theorem fl_X6_126_14 : FLk RX6 126 TX6 49 := Or.inl ⟨"ClogHouseModel", q1235, Or.inl rfl⟩
theorem fl_X6_129_14 : FLk RX6 129 TX6 50 := Or.inl ⟨"ClogHouseModel", q1236, Or.inl rfl⟩
theorem fl_X6_381_14 : FLk RX6 381 TX6 54 := Or.inl ⟨"ClogHouseModel", q1240, Or.inl rfl⟩
theorem fl_X6_132_14 : FLk RX6 132 TX6 51 := Or.inl ⟨"ClogHouseModel", q1237, Or.inl rfl⟩
theorem fl_X6_135_14 : FLk RX6 135 TX6 52 := Or.inl ⟨"ClogHouseModel", q1238, Or.inl rfl⟩
theorem fl_X6_387_14 : FLk RX6 387 TX6 57 := Or.inl ⟨"ClogHouseModel", q1243, Or.inl rfl⟩
theorem fl_X6_138_14 : FLk RX6 138 TX6 55 := Or.inl ⟨"ClogHouseModel", q1241, Or.inl rfl⟩
theorem fl_X6_141_14 : FLk RX6 141 TX6 56 := Or.inl ⟨"ClogHouseModel", q1242, Or.inl rfl⟩
theorem fl_X6_393_14 : FLk RX6 393 TX6 62 := Or.inl ⟨"ClogHouseModel", q1248, Or.inl rfl⟩
theorem fl_X6_145_14 : FLk RX6 145 TX6 58 := Or.inl ⟨"ClogHouseModel", q1244, Or.inl rfl⟩
theorem fl_X6_148_14 : FLk RX6 148 TX6 59 := Or.inl ⟨"ClogHouseModel", q1245, Or.inl rfl⟩
theorem fl_X6_151_14 : FLk RX6 151 TX6 60 := Or.inl ⟨"ClogHouseModel", q1246, Or.inl rfl⟩
theorem fl_X6_154_14 : FLk RX6 154 TX6 61 := Or.inl ⟨"ClogHouseModel", q1247, Or.inl rfl⟩
theorem fl_X1_18_0 : FLk RX1 18 TX1 1 := Or.inl ⟨"ClogHouse", q229, Or.inl rfl⟩
theorem fl_X1_123_1 : FLk RX1 123 TX2 0 := Or.inr ⟨"ClogHouse$Grains", "ClogHouse", List.mem_of_getElem? (i := 8) rfl, Or.inl rfl⟩
theorem fl_X1_126_1 : FLk RX1 126 TX2 1 := Or.inr ⟨"ClogHouse$Grains", "ClogHouse", List.mem_of_getElem? (i := 9) rfl, Or.inl rfl⟩
theorem fl_X1_129_1 : FLk RX1 129 TX2 2 := Or.inr ⟨"ClogHouse$Grains", "ClogHouse", List.mem_of_getElem? (i := 10) rfl, Or.inl rfl⟩
theorem fl_X1_140_0 : FLk RX1 140 TX1 3 := Or.inl ⟨"ClogHouse", q231, Or.inl rfl⟩
theorem fl_X1_24_0 : FLk RX1 24 TX1 2 := Or.inl ⟨"ClogHouse", q230, Or.inl rfl⟩
theorem fl_X1_164_2 : FLk RX1 164 TX3 2 := Or.inr ⟨"ClogHouse$Filter", "ClogHouse", List.mem_of_getElem? (i := 14) rfl, Or.inl rfl⟩
theorem fl_X1_147_2 : FLk RX1 147 TX3 5 := Or.inr ⟨"ClogHouse$Filter", "ClogHouse", List.mem_of_getElem? (i := 16) rfl, Or.inl rfl⟩
theorem fl_X1_156_2 : FLk RX1 156 TX3 0 := Or.inr ⟨"ClogHouse$Filter", "ClogHouse", List.mem_of_getElem? (i := 12) rfl, Or.inl rfl⟩
theorem fl_X1_171_4 : FLk RX1 171 TX7 4 := Or.inr ⟨"ClogHouse$Cell", "ClogHouse", List.mem_of_getElem? (i := 30) rfl, Or.inl rfl⟩
theorem fl_X1_174_4 : FLk RX1 174 TX7 2 := Or.inr ⟨"ClogHouse$Cell", "ClogHouse", List.mem_of_getElem? (i := 28) rfl, Or.inl rfl⟩
theorem fl_X4_9_4 : FLk RX4 9 TX7 0 := Or.inl ⟨"ClogHouse$Part", q157, Or.inl rfl⟩
theorem fl_X7_19_4 : FLk RX7 19 TX7 4 := Or.inl ⟨"ClogHouse$Cell", q382, Or.inl rfl⟩
theorem fl_X7_22_4 : FLk RX7 22 TX7 2 := Or.inl ⟨"ClogHouse$Cell", q378, Or.inl rfl⟩
theorem fl_X1_187_4 : FLk RX1 187 TX7 0 := Or.inl ⟨"ClogHouse$Cell", q162, Or.inr q159⟩
theorem fl_X1_190_4 : FLk RX1 190 TX7 3 := Or.inr ⟨"ClogHouse$Cell", "ClogHouse", List.mem_of_getElem? (i := 29) rfl, Or.inl rfl⟩
theorem fl_X1_193_2 : FLk RX1 193 TX3 6 := Or.inr ⟨"ClogHouse$Filter", "ClogHouse", List.mem_of_getElem? (i := 17) rfl, Or.inl rfl⟩
theorem fl_X1_196_2 : FLk RX1 196 TX3 7 := Or.inr ⟨"ClogHouse$Filter", "ClogHouse", List.mem_of_getElem? (i := 18) rfl, Or.inl rfl⟩
theorem fl_X1_199_2 : FLk RX1 199 TX3 8 := Or.inr ⟨"ClogHouse$Filter", "ClogHouse", List.mem_of_getElem? (i := 19) rfl, Or.inl rfl⟩
theorem fl_X1_202_2 : FLk RX1 202 TX3 1 := Or.inr ⟨"ClogHouse$Filter", "ClogHouse", List.mem_of_getElem? (i := 13) rfl, Or.inl rfl⟩
theorem fl_X4_9_3 : FLk RX4 9 TX5 0 := Or.inl ⟨"ClogHouse$Part", q157, Or.inl rfl⟩
theorem fl_X3_38_2 : FLk RX3 38 TX3 5 := Or.inl ⟨"ClogHouse$Filter", q176, Or.inl rfl⟩
theorem fl_X3_11_2 : FLk RX3 11 TX3 0 := Or.inl ⟨"ClogHouse$Filter", q167, Or.inl rfl⟩
theorem fl_X1_216_2 : FLk RX1 216 TX3 9 := Or.inr ⟨"ClogHouse$Filter", "ClogHouse", List.mem_of_getElem? (i := 20) rfl, Or.inl rfl⟩
theorem fl_X1_219_2 : FLk RX1 219 TX3 10 := Or.inr ⟨"ClogHouse$Filter", "ClogHouse", List.mem_of_getElem? (i := 21) rfl, Or.inl rfl⟩
theorem fl_X1_222_2 : FLk RX1 222 TX3 11 := Or.inr ⟨"ClogHouse$Filter", "ClogHouse", List.mem_of_getElem? (i := 22) rfl, Or.inl rfl⟩
theorem fl_X3_20_2 : FLk RX3 20 TX3 1 := Or.inl ⟨"ClogHouse$Filter", q169, Or.inl rfl⟩
theorem fl_X3_24_2 : FLk RX3 24 TX3 2 := Or.inl ⟨"ClogHouse$Filter", q171, Or.inl rfl⟩
theorem fl_X1_245_0 : FLk RX1 245 TX1 7 := Or.inl ⟨"ClogHouse", q235, Or.inl rfl⟩
theorem fl_X1_28_0 : FLk RX1 28 TX1 4 := Or.inl ⟨"ClogHouse", q232, Or.inl rfl⟩
theorem fl_X1_272_2 : FLk RX1 272 TX3 16 := Or.inr ⟨"ClogHouse$Filter", "ClogHouse", List.mem_of_getElem? (i := 27) rfl, Or.inl rfl⟩
theorem fl_X1_34_0 : FLk RX1 34 TX1 5 := Or.inl ⟨"ClogHouse", q233, Or.inl rfl⟩
theorem fl_X1_266_0 : FLk RX1 266 TX1 8 := Or.inl ⟨"ClogHouse", q236, Or.inl rfl⟩
theorem fl_X1_294_0 : FLk RX1 294 TX1 21 := Or.inl ⟨"ClogHouse", q249, Or.inl rfl⟩
theorem fl_X1_42_0 : FLk RX1 42 TX1 9 := Or.inl ⟨"ClogHouse", q237, Or.inl rfl⟩
theorem fl_X1_299_0 : FLk RX1 299 TX1 0 := Or.inl ⟨"ClogHouse", q228, Or.inl rfl⟩
theorem fl_X1_38_0 : FLk RX1 38 TX1 6 := Or.inl ⟨"ClogHouse", q234, Or.inl rfl⟩
theorem fl_X1_69_0 : FLk RX1 69 TX1 18 := Or.inl ⟨"ClogHouse", q246, Or.inl rfl⟩
theorem fl_X18_7_13 : FLk RX18 7 TX18 0 := Or.inl ⟨"ClogHouse$Clause", q855, Or.inl rfl⟩
theorem fl_X18_13_13 : FLk RX18 13 TX18 1 := Or.inl ⟨"ClogHouse$Clause", q856, Or.inl rfl⟩
theorem fl_X17_7_12 : FLk RX17 7 TX17 0 := Or.inl ⟨"ClogHouse$Compare", q820, Or.inl rfl⟩
theorem fl_X13_7_8 : FLk RX13 7 TX13 0 := Or.inl ⟨"ClogHouse$Chain", q780, Or.inl rfl⟩
theorem fl_X13_18_8 : FLk RX13 18 TX13 1 := Or.inl ⟨"ClogHouse$Chain", q781, Or.inl rfl⟩
theorem fl_X13_32_11 : FLk RX13 32 TX16 1 := Or.inr ⟨"ClogHouse$Link", "ClogHouse", List.mem_of_getElem? (i := 40) rfl, Or.inl rfl⟩
theorem fl_X16_7_11 : FLk RX16 7 TX16 0 := Or.inl ⟨"ClogHouse$Link", q800, Or.inl rfl⟩
theorem fl_X13_25_11 : FLk RX13 25 TX16 2 := Or.inr ⟨"ClogHouse$Link", "ClogHouse", List.mem_of_getElem? (i := 41) rfl, Or.inl rfl⟩
theorem fl_X14_7_9 : FLk RX14 7 TX14 0 := Or.inl ⟨"ClogHouse$Plain", q762, Or.inl rfl⟩
theorem fl_X15_7_10 : FLk RX15 7 TX15 0 := Or.inl ⟨"ClogHouse$Letter", q772, Or.inl rfl⟩
theorem fl_X17_13_12 : FLk RX17 13 TX17 1 := Or.inl ⟨"ClogHouse$Compare", q821, Or.inl rfl⟩
theorem fl_X17_16_12 : FLk RX17 16 TX17 2 := Or.inl ⟨"ClogHouse$Compare", q822, Or.inl rfl⟩
theorem fl_X11_7_7 : FLk RX11 7 TX11 0 := Or.inl ⟨"ClogHouse$Not", q722, Or.inl rfl⟩
theorem fl_X10_13_6 : FLk RX10 13 TX10 1 := Or.inl ⟨"ClogHouse$Several", q835, Or.inl rfl⟩
theorem fl_X10_7_6 : FLk RX10 7 TX10 0 := Or.inl ⟨"ClogHouse$Several", q834, Or.inl rfl⟩
theorem fl_X10_23_6 : FLk RX10 23 TX10 2 := Or.inl ⟨"ClogHouse$Several", q836, Or.inl rfl⟩
theorem fl_X18_33_13 : FLk RX18 33 TX18 3 := Or.inl ⟨"ClogHouse$Clause", q858, Or.inl rfl⟩
theorem fl_X18_17_13 : FLk RX18 17 TX18 2 := Or.inl ⟨"ClogHouse$Clause", q857, Or.inl rfl⟩
theorem fl_X1_54_0 : FLk RX1 54 TX1 13 := Or.inl ⟨"ClogHouse", q241, Or.inl rfl⟩
theorem fl_X7_9_4 : FLk RX7 9 TX7 3 := Or.inl ⟨"ClogHouse$Cell", q380, Or.inl rfl⟩
theorem fl_X7_15_4 : FLk RX7 15 TX7 1 := Or.inl ⟨"ClogHouse$Cell", q377, Or.inl rfl⟩
theorem fl_X3_74_2 : FLk RX3 74 TX3 8 := Or.inl ⟨"ClogHouse$Filter", q181, Or.inl rfl⟩
theorem fl_X3_77_2 : FLk RX3 77 TX3 7 := Or.inl ⟨"ClogHouse$Filter", q179, Or.inl rfl⟩
theorem fl_X1_152_2 : FLk RX1 152 TX3 15 := Or.inr ⟨"ClogHouse$Filter", "ClogHouse", List.mem_of_getElem? (i := 26) rfl, Or.inl rfl⟩
theorem fl_X1_51_0 : FLk RX1 51 TX1 12 := Or.inl ⟨"ClogHouse", q240, Or.inl rfl⟩
theorem fl_X7_49_4 : FLk RX7 49 TX7 0 := Or.inl ⟨"ClogHouse$Cell", q158, Or.inr q159⟩
theorem fl_X7_52_1 : FLk RX7 52 TX2 2 := Or.inr ⟨"ClogHouse$Grains", "ClogHouse", List.mem_of_getElem? (i := 62) rfl, Or.inl rfl⟩
theorem fl_X7_57_1 : FLk RX7 57 TX2 1 := Or.inr ⟨"ClogHouse$Grains", "ClogHouse", List.mem_of_getElem? (i := 61) rfl, Or.inl rfl⟩
theorem fl_X3_84_4 : FLk RX3 84 TX7 4 := Or.inr ⟨"ClogHouse$Cell", "ClogHouse", List.mem_of_getElem? (i := 53) rfl, Or.inl rfl⟩
theorem fl_X1_72_0 : FLk RX1 72 TX1 19 := Or.inl ⟨"ClogHouse", q247, Or.inl rfl⟩
theorem fl_X1_63_0 : FLk RX1 63 TX1 16 := Or.inl ⟨"ClogHouse", q244, Or.inl rfl⟩
theorem fl_X1_66_0 : FLk RX1 66 TX1 17 := Or.inl ⟨"ClogHouse", q245, Or.inl rfl⟩
theorem fl_X1_337_2 : FLk RX1 337 TX3 14 := Or.inr ⟨"ClogHouse$Filter", "ClogHouse", List.mem_of_getElem? (i := 25) rfl, Or.inl rfl⟩
theorem fl_X1_330_2 : FLk RX1 330 TX3 3 := Or.inr ⟨"ClogHouse$Filter", "ClogHouse", List.mem_of_getElem? (i := 15) rfl, Or.inl rfl⟩
theorem fl_X3_93_2 : FLk RX3 93 TX3 11 := Or.inl ⟨"ClogHouse$Filter", q185, Or.inl rfl⟩
theorem fl_X3_31_2 : FLk RX3 31 TX3 4 := Or.inl ⟨"ClogHouse$Filter", q175, Or.inl rfl⟩
theorem fl_X3_28_2 : FLk RX3 28 TX3 3 := Or.inl ⟨"ClogHouse$Filter", q173, Or.inl rfl⟩
theorem fl_X2_9_1 : FLk RX2 9 TX2 0 := Or.inl ⟨"ClogHouse$Grains", q119, Or.inl rfl⟩
theorem fl_X3_96_3 : FLk RX3 96 TX5 0 := Or.inl ⟨"ClogHouse$Cake", q160, Or.inr q161⟩
theorem fl_X1_347_2 : FLk RX1 347 TX3 12 := Or.inr ⟨"ClogHouse$Filter", "ClogHouse", List.mem_of_getElem? (i := 23) rfl, Or.inl rfl⟩
theorem fl_X1_350_2 : FLk RX1 350 TX3 13 := Or.inr ⟨"ClogHouse$Filter", "ClogHouse", List.mem_of_getElem? (i := 24) rfl, Or.inl rfl⟩
theorem fl_X1_76_0 : FLk RX1 76 TX1 20 := Or.inl ⟨"ClogHouse", q248, Or.inl rfl⟩
theorem fl_X1_48_0 : FLk RX1 48 TX1 11 := Or.inl ⟨"ClogHouse", q239, Or.inl rfl⟩
theorem fl_X1_57_0 : FLk RX1 57 TX1 14 := Or.inl ⟨"ClogHouse", q242, Or.inl rfl⟩
theorem fl_X1_60_0 : FLk RX1 60 TX1 15 := Or.inl ⟨"ClogHouse", q243, Or.inl rfl⟩
theorem fl_X1_374_0 : FLk RX1 374 TX1 26 := Or.inl ⟨"ClogHouse", q254, Or.inl rfl⟩
theorem fl_X1_79_0 : FLk RX1 79 TX1 22 := Or.inl ⟨"ClogHouse", q250, Or.inl rfl⟩
theorem fl_X1_82_0 : FLk RX1 82 TX1 23 := Or.inl ⟨"ClogHouse", q251, Or.inl rfl⟩
theorem fl_X1_98_0 : FLk RX1 98 TX1 29 := Or.inl ⟨"ClogHouse", q257, Or.inl rfl⟩
theorem fl_X1_93_0 : FLk RX1 93 TX1 28 := Or.inl ⟨"ClogHouse", q256, Or.inl rfl⟩
theorem fl_X1_85_0 : FLk RX1 85 TX1 24 := Or.inl ⟨"ClogHouse", q252, Or.inl rfl⟩
theorem fl_X1_45_0 : FLk RX1 45 TX1 10 := Or.inl ⟨"ClogHouse", q238, Or.inl rfl⟩
theorem fl_X1_380_0 : FLk RX1 380 TX1 27 := Or.inl ⟨"ClogHouse", q255, Or.inl rfl⟩
theorem fl_X1_88_0 : FLk RX1 88 TX1 25 := Or.inl ⟨"ClogHouse", q253, Or.inl rfl⟩
theorem fl_X1_397_0 : FLk RX1 397 TX1 32 := Or.inl ⟨"ClogHouse", q260, Or.inl rfl⟩
theorem fl_X1_102_0 : FLk RX1 102 TX1 30 := Or.inl ⟨"ClogHouse", q258, Or.inl rfl⟩
theorem fl_X1_105_0 : FLk RX1 105 TX1 31 := Or.inl ⟨"ClogHouse", q259, Or.inl rfl⟩
theorem fl_X1_412_0 : FLk RX1 412 TX1 38 := Or.inl ⟨"ClogHouse", q266, Or.inl rfl⟩
theorem fl_X1_108_0 : FLk RX1 108 TX1 33 := Or.inl ⟨"ClogHouse", q261, Or.inl rfl⟩
theorem fl_X1_111_0 : FLk RX1 111 TX1 34 := Or.inl ⟨"ClogHouse", q262, Or.inl rfl⟩
theorem fl_X1_114_0 : FLk RX1 114 TX1 35 := Or.inl ⟨"ClogHouse", q263, Or.inl rfl⟩
theorem fl_X1_117_0 : FLk RX1 117 TX1 36 := Or.inl ⟨"ClogHouse", q264, Or.inl rfl⟩
theorem fl_X1_120_0 : FLk RX1 120 TX1 37 := Or.inl ⟨"ClogHouse", q265, Or.inl rfl⟩
theorem fl_X16_13_11 : FLk RX16 13 TX16 1 := Or.inl ⟨"ClogHouse$Link", q801, Or.inl rfl⟩
theorem fl_X8_9_5 : FLk RX8 9 TX8 0 := Or.inl ⟨"ClogHouse$Reader", q515, Or.inl rfl⟩
theorem fl_X8_15_5 : FLk RX8 15 TX8 1 := Or.inl ⟨"ClogHouse$Reader", q516, Or.inl rfl⟩
theorem fl_X8_19_5 : FLk RX8 19 TX8 2 := Or.inl ⟨"ClogHouse$Reader", q517, Or.inl rfl⟩
theorem v_X6_161 : SOK RX6 161 yX6_in cX6_in 3 (some .boolean) 3 := ⟨lw_S q1386 q1387 q81 q1388, by decide, by decide, by decide +kernel⟩
theorem v_X6_168 : VOK RX6 168 RX6 yX6_isFilter cX6_isFilter 2 (some .boolean) 1 := ⟨lw_V q1397 q1399 qs35 q81 q1400, rfl, by decide, by decide, by decide +kernel⟩
theorem v_X6_178 : VOK RX6 178 RX6 yX6_heldIn cX6_heldIn 5 (some .int) 2 := ⟨lw_V q1421 q1423 qs39 q81 q1424, rfl, by decide, by decide, by decide +kernel⟩
theorem v_X6_181 : SOK RX6 181 yX6_widthOf cX6_widthOf 3 (some .int) 3 := ⟨lw_S q1425 q1426 q81 q1427, by decide, by decide, by decide +kernel⟩
theorem v_X6_185 : VOK RX6 185 RX6 yX6_width cX6_width 3 (some .int) 2 := ⟨lw_V q1417 q1419 qs38 q81 q1420, rfl, by decide, by decide, by decide +kernel⟩
theorem v_X6_188 : SOK RX6 188 yX6_resistOf cX6_resistOf 1 (some .int) 1 := ⟨lw_S q1429 q1430 q81 q1431, by decide, by decide, by decide +kernel⟩
theorem v_X6_192 : VOK RX6 192 RX6 yX6_bed cX6_bed 5 (some .int) 1 := ⟨lw_V q1413 q1415 qs37 q81 q1416, rfl, by decide, by decide, by decide +kernel⟩
theorem v_X6_195 : VOK RX6 195 RX6 yX6_cakeOf cX6_cakeOf 4 (some .int) 1 := ⟨lw_V q1432 q1434 qs40 q81 q1435, rfl, by decide, by decide, by decide +kernel⟩
theorem v_X6_206 : VOK RX6 206 RX6 yX6_pushFor cX6_pushFor 11 (some .int) 2 := ⟨lw_V q1409 q1411 qs36 q81 q1412, rfl, by decide, by decide, by decide +kernel⟩
theorem v_X6_209 : VOK RX6 209 RX6 yX6_isCell cX6_isCell 3 (some .boolean) 2 := ⟨lw_V q1444 q1446 qs41 q81 q1447, rfl, by decide, by decide, by decide +kernel⟩
theorem v_X6_213 : SOK RX6 213 yX6_byteOf cX6_byteOf 7 (some .int) 6 := ⟨lw_S q1460 q1461 q81 q1462, by decide, by decide, by decide +kernel⟩
theorem v_X6_235 : VOK RX6 235 RX6 yX6_look cX6_look 1 (some .int) 0 := ⟨lw_V q1475 q1477 qs43 q81 q1478, rfl, by decide, by decide, by decide +kernel⟩
theorem v_X6_284 : SOK RX6 284 yX6_isLabel cX6_isLabel 1 (some .boolean) 1 := ⟨lw_S q1479 q1480 q81 q1481, by decide, by decide, by decide +kernel⟩
theorem v_X6_232 : VOK RX6 232 RX6 yX6_bad cX6_bad 1 none 0 := ⟨lw_V q1482 q1484 qs44 q81 q1485, rfl, by decide, by decide, by decide +kernel⟩
theorem v_X6_242 : VOK RX6 242 RX6 yX6_say cX6_say 2 none 1 := ⟨lw_V q1486 q1488 qs45 q81 q1489, rfl, by decide, by decide, by decide +kernel⟩
theorem v_X6_271 : VOK RX6 271 RX6 yX6_unit cX6_unit 2 none 0 := ⟨lw_V q1535 q1537 qs55 q81 q1538, rfl, by decide, by decide, by decide +kernel⟩
theorem v_X6_268 : SOK RX6 268 yX6_isSign cX6_isSign 1 (some .boolean) 1 := ⟨lw_S q1520 q1521 q81 q1522, by decide, by decide, by decide +kernel⟩
theorem v_X6_246 : VOK RX6 246 RX6 yX6_opens cX6_opens 1 (some .boolean) 0 := ⟨lw_V q1502 q1504 qs49 q81 q1505, rfl, by decide, by decide, by decide +kernel⟩
theorem v_X6_250 : VOK RX6 250 RX6 yX6_sum cX6_sum 2 none 0 := ⟨lw_V q1490 q1492 qs46 q81 q1493, rfl, by decide, by decide, by decide +kernel⟩
theorem v_X6_253 : VOK RX6 253 RX6 yX6_closes cX6_closes 2 none 1 := ⟨lw_V q1506 q1508 qs50 q81 q1509, rfl, by decide, by decide, by decide +kernel⟩
theorem v_X6_256 : SOK RX6 256 yX6_isLetter cX6_isLetter 1 (some .boolean) 1 := ⟨lw_S q1510 q1511 q81 q1512, by decide, by decide, by decide +kernel⟩
theorem v_X6_239 : SOK RX6 239 yX6_isDigit cX6_isDigit 1 (some .boolean) 1 := ⟨lw_S q1517 q1518 q81 q1519, by decide, by decide, by decide +kernel⟩
theorem v_X6_259 : VOK RX6 259 RX6 yX6_number cX6_number 3 none 0 := ⟨lw_V q1513 q1515 qs51 q81 q1516, rfl, by decide, by decide, by decide +kernel⟩
theorem v_X6_262 : VOK RX6 262 RX6 yX6_atom cX6_atom 2 none 0 := ⟨lw_V q1498 q1500 qs48 q81 q1501, rfl, by decide, by decide, by decide +kernel⟩
theorem v_X6_265 : VOK RX6 265 RX6 yX6_term cX6_term 2 none 0 := ⟨lw_V q1494 q1496 qs47 q81 q1497, rfl, by decide, by decide, by decide +kernel⟩
theorem v_X6_278 : VOK RX6 278 RX6 yX6_compare cX6_compare 2 none 0 := ⟨lw_V q1531 q1533 qs54 q81 q1534, rfl, by decide, by decide, by decide +kernel⟩
theorem v_X6_281 : VOK RX6 281 RX6 yX6_part cX6_part 2 none 1 := ⟨lw_V q1527 q1529 qs53 q81 q1530, rfl, by decide, by decide, by decide +kernel⟩
theorem v_X6_274 : VOK RX6 274 RX6 yX6_condition cX6_condition 2 none 1 := ⟨lw_V q1523 q1525 qs52 q81 q1526, rfl, by decide, by decide, by decide +kernel⟩
theorem v_X6_287 : VOK RX6 287 RX6 yX6_clause cX6_clause 6 none 0 := ⟨lw_V q1471 q1473 qs42 q81 q1474, rfl, by decide, by decide, by decide +kernel⟩
theorem v_X6_293 : VOK RX6 293 RX6 yX6_fault cX6_fault 1 (some .int) 0 := ⟨lw_V q1543 q1468 q1469 q81 q1470, rfl, by decide, by decide, by decide +kernel⟩
theorem v_X6_303 : SOK RX6 303 yX6_bounded cX6_bounded 2 (some .int) 1 := ⟨lw_S q1563 q1564 q81 q1565, by decide, by decide, by decide +kernel⟩
theorem v_X6_310 : SOK RX6 310 yX6_both cX6_both 3 (some .int) 3 := ⟨lw_S q1560 q1561 q81 q1562, by decide, by decide, by decide +kernel⟩
theorem v_X6_313 : VOK RX6 313 RX6 yX6_work cX6_work 3 (some .int) 0 := ⟨lw_V q1556 q1558 qs57 q81 q1559, rfl, by decide, by decide, by decide +kernel⟩
theorem v_X6_316 : VOK RX6 316 RX6 yX6_worthBy cX6_worthBy 6 (some .int) 2 := ⟨lw_V q1552 q1554 qs56 q81 q1555, rfl, by decide, by decide, by decide +kernel⟩
theorem v_X6_322 : VOK RX6 322 RX6 yX6_change cX6_change 6 none 1 := ⟨lw_V q1589 q1591 qs60 q81 q1592, rfl, by decide, by decide, by decide +kernel⟩
theorem v_X6_351 : VOK RX6 351 RX6 yX6_decide cX6_decide 2 none 1 := ⟨lw_V q1585 q1587 qs59 q81 q1588, rfl, by decide, by decide, by decide +kernel⟩
theorem v_X6_354 : VOK RX6 354 RX6 yX6_washOne cX6_washOne 10 none 1 := ⟨lw_V q1594 q1596 qs61 q81 q1597, rfl, by decide, by decide, by decide +kernel⟩
theorem v_X6_333 : VOK RX6 333 RX6 yX6_weightOf cX6_weightOf 3 (some .int) 1 := ⟨lw_V q1603 q1605 qs63 q81 q1606, rfl, by decide, by decide, by decide +kernel⟩
theorem v_X6_336 : VOK RX6 336 RX6 yX6_look_2 cX6_look_2 3 none 1 := ⟨lw_V q1608 q1610 qs64 q81 q1611, rfl, by decide, by decide, by decide +kernel⟩
theorem v_X6_338 : VOK RX6 338 RX6 yX6_tell cX6_tell 4 none 3 := ⟨lw_V q1612 q1614 qs65 q81 q1615, rfl, by decide, by decide, by decide +kernel⟩
theorem v_X6_345 : VOK RX6 345 RX6 yX6_partOf cX6_partOf 7 (some .int) 2 := ⟨lw_V q1620 q1622 qs67 q81 q1623, rfl, by decide, by decide, by decide +kernel⟩
theorem v_X6_348 : VOK RX6 348 RX6 yX6_lead cX6_lead 8 (some .int) 3 := ⟨lw_V q1624 q1626 qs68 q81 q1627, rfl, by decide, by decide, by decide +kernel⟩
theorem v_X6_342 : VOK RX6 342 RX6 yX6_runOne cX6_runOne 6 none 1 := ⟨lw_V q1616 q1618 qs66 q81 q1619, rfl, by decide, by decide, by decide +kernel⟩
theorem v_X6_357 : VOK RX6 357 RX6 yX6_flow cX6_flow 6 none 0 := ⟨lw_V q1599 q1601 qs62 q81 q1602, rfl, by decide, by decide, by decide +kernel⟩
theorem v_X6_360 : VOK RX6 360 RX6 yX6_hour cX6_hour 2 none 0 := ⟨lw_V q1581 q1583 qs58 q81 q1584, rfl, by decide, by decide, by decide +kernel⟩
theorem v_X6_372 : SOK RX6 372 yX6_choose cX6_choose 5 (some .long) 2 := ⟨lw_S q1660 q1661 q81 q1662, by decide, by decide, by decide +kernel⟩
theorem v_X6_368 : SOK RX6 368 yX6_ways cX6_ways 2 (some .long) 2 := ⟨lw_S q1657 q1658 q81 q1659, by decide, by decide, by decide +kernel⟩
theorem v_X6_363 : SOK RX6 363 yX6_divisor cX6_divisor 4 (some .long) 2 := ⟨lw_S q1663 q1664 q81 q1665, by decide, by decide, by decide +kernel⟩
theorem v_X6_378 : VOK RX6 378 RX6 yX6_lasts cX6_lasts 7 (some .int) 1 := ⟨lw_V q1682 q1684 qs70 q81 q1685, rfl, by decide, by decide, by decide +kernel⟩
theorem v_X6_384 : VOK RX6 384 RX6 yX6_arrange cX6_arrange 6 none 3 := ⟨lw_V q1678 q1680 qs69 q81 q1681, rfl, by decide, by decide, by decide +kernel⟩
theorem v_X6_390 : VOK RX6 390 RX6 yX6_from cX6_from 3 (some .long) 2 := ⟨lw_V q1694 q1696 qs71 q81 q1697, rfl, by decide, by decide, by decide +kernel⟩
theorem v_X6_400 : VOK RX6 400 RX6 yX6_isAsked cX6_isAsked 4 (some .boolean) 3 := ⟨lw_V q1706 q1708 qs72 q81 q1709, rfl, by decide, by decide, by decide +kernel⟩
theorem v_X6_396 : VOK RX6 396 RX6 yX6_agrees cX6_agrees 7 (some .boolean) 4 := ⟨lw_V q1714 q1716 qs74 q81 q1717, rfl, by decide, by decide, by decide +kernel⟩
theorem v_X6_403 : VOK RX6 403 RX6 yX6_readBack cX6_readBack 7 (some .int) 4 := ⟨lw_V q1710 q1712 qs73 q81 q1713, rfl, by decide, by decide, by decide +kernel⟩
theorem v_X1_5 : SOK RX1 5 yX1_isIn cX1_isIn 6 (some .boolean) 3 := ⟨lw_S q354 q355 q76 q356, by decide, by decide, by decide +kernel⟩
theorem v_X1_132 : SOK RX1 132 yX1_isSize cX1_isSize 1 (some .boolean) 1 := ⟨lw_S q350 q351 q76 q352, by decide, by decide, by decide +kernel⟩
theorem v_X1_144 : VOK RX1 144 RX1 yX1_isFilter cX1_isFilter 2 (some .boolean) 1 := ⟨lw_V q367 q369 qs0 q76 q370, rfl, by decide, by decide, by decide +kernel⟩
theorem v_X1_167 : VOK RX1 167 RX1 yX1_isCell cX1_isCell 3 (some .boolean) 2 := ⟨lw_V q404 q406 qs1 q76 q407, rfl, by decide, by decide, by decide +kernel⟩
theorem vi_X19_3_4 : IOK RX19 3 "ClogHouse$Cell" ⟨"ClogHouse$Holds", "of", "(I)I"⟩ yX4_of cX4_of 2 (some .int) 1 := ⟨lw_F q418 q428 q424 q79 q426, ⟨List.mem_of_getElem? (i := 51) rfl, List.mem_of_getElem? (i := 50) rfl, List.mem_of_getElem? (i := 54) rfl, List.mem_of_getElem? (i := 66) rfl, List.mem_of_getElem? (i := 65) rfl⟩, by decide, by decide, by decide +kernel⟩
theorem vd_X7_31 : DOK RX7 31 "ClogHouse$Cell" ⟨"ClogHouse$Cell", "all", "()I"⟩ yX19_all cX19_all 3 (some .int) 0 := ⟨List.mem_of_getElem? (i := 75) rfl, List.mem_of_getElem? (i := 81) rfl, List.mem_of_getElem? (i := 79) rfl, q414, q416, rfl, by decide, by decide, by decide +kernel⟩
theorem v_X7_35 : VOK RX7 35 RX7 yX7_widthWith cX7_widthWith 2 (some .int) 1 := ⟨lw_V q430 q431 q432 q82 q433, rfl, by decide, by decide, by decide +kernel⟩
theorem v_X1_177 : VOK RX1 177 RX7 yX7_width cX7_width 1 (some .int) 0 := ⟨lw_V q408 q409 q410 q82 q411, rfl, by decide, by decide, by decide +kernel⟩
theorem v_X7_39 : VOK RX7 39 RX7 yX7_width cX7_width 1 (some .int) 0 := ⟨lw_V q441 q409 q410 q82 q411, rfl, by decide, by decide, by decide +kernel⟩
theorem v_X7_42 : SOK RX7 42 yX7_resistOf cX7_resistOf 1 (some .int) 1 := ⟨lw_S q442 q443 q82 q444, by decide, by decide, by decide +kernel⟩
theorem v_X1_181 : VOK RX1 181 RX7 yX7_resist cX7_resist 1 (some .int) 0 := ⟨lw_V q437 q438 q439 q82 q440, rfl, by decide, by decide, by decide +kernel⟩
theorem vd_X1_184 : DOK RX1 184 "ClogHouse$Cell" ⟨"ClogHouse$Cell", "all", "()I"⟩ yX19_all cX19_all 3 (some .int) 0 := ⟨List.mem_of_getElem? (i := 76) rfl, List.mem_of_getElem? (i := 81) rfl, List.mem_of_getElem? (i := 79) rfl, q414, q416, rfl, by decide, by decide, by decide +kernel⟩
theorem vi_X19_3_3 : IOK RX19 3 "ClogHouse$Cake" ⟨"ClogHouse$Holds", "of", "(I)I"⟩ yX4_of cX4_of 2 (some .int) 1 := ⟨lw_F q418 q422 q424 q79 q426, ⟨List.mem_of_getElem? (i := 51) rfl, List.mem_of_getElem? (i := 50) rfl, List.mem_of_getElem? (i := 54) rfl, List.mem_of_getElem? (i := 59) rfl, List.mem_of_getElem? (i := 58) rfl⟩, by decide, by decide, by decide +kernel⟩
theorem vd_X1_206 : DOK RX1 206 "ClogHouse$Cake" ⟨"ClogHouse$Cake", "all", "()I"⟩ yX19_all cX19_all 3 (some .int) 0 := ⟨List.mem_of_getElem? (i := 77) rfl, List.mem_of_getElem? (i := 82) rfl, List.mem_of_getElem? (i := 80) rfl, q414, q416, rfl, by decide, by decide, by decide +kernel⟩
theorem v_X3_41 : VOK RX3 41 RX7 yX7_width cX7_width 1 (some .int) 0 := ⟨lw_V q458 q409 q410 q82 q411, rfl, by decide, by decide, by decide +kernel⟩
theorem v_X1_209 : VOK RX1 209 RX3 yX3_isOpen cX3_isOpen 2 (some .boolean) 0 := ⟨lw_V q454 q455 q456 q78 q457, rfl, by decide, by decide, by decide +kernel⟩
theorem v_X3_45 : VOK RX3 45 RX7 yX7_resist cX7_resist 1 (some .int) 0 := ⟨lw_V q463 q438 q439 q82 q440, rfl, by decide, by decide, by decide +kernel⟩
theorem v_X1_213 : VOK RX1 213 RX3 yX3_bed cX3_bed 3 (some .int) 0 := ⟨lw_V q459 q460 q461 q78 q462, rfl, by decide, by decide, by decide +kernel⟩
theorem v_X3_48 : VOK RX3 48 RX3 yX3_isOpen cX3_isOpen 2 (some .boolean) 0 := ⟨lw_V q472 q455 q456 q78 q457, rfl, by decide, by decide, by decide +kernel⟩
theorem v_X3_52 : VOK RX3 52 RX3 yX3_bed cX3_bed 3 (some .int) 0 := ⟨lw_V q473 q460 q461 q78 q462, rfl, by decide, by decide, by decide +kernel⟩
theorem v_X3_61 : VOK RX3 61 RX3 yX3_press cX3_press 1 (some .int) 0 := ⟨lw_V q478 q479 q480 q78 q481, rfl, by decide, by decide, by decide +kernel⟩
theorem vd_X5_7 : DOK RX5 7 "ClogHouse$Cake" ⟨"ClogHouse$Cake", "all", "()I"⟩ yX19_all cX19_all 3 (some .int) 0 := ⟨List.mem_of_getElem? (i := 78) rfl, List.mem_of_getElem? (i := 82) rfl, List.mem_of_getElem? (i := 80) rfl, q414, q416, rfl, by decide, by decide, by decide +kernel⟩
theorem v_X3_64 : VOK RX3 64 RX5 yX5_resist cX5_resist 3 (some .long) 2 := ⟨lw_V q482 q483 q484 q80 q485, rfl, by decide, by decide, by decide +kernel⟩
theorem v_X3_55 : VOK RX3 55 RX3 yX3_needs cX3_needs 5 (some .long) 3 := ⟨lw_V q474 q476 qs2 q78 q477, rfl, by decide, by decide, by decide +kernel⟩
theorem v_X1_225 : VOK RX1 225 RX3 yX3_pushWith cX3_pushWith 8 (some .int) 1 := ⟨lw_V q468 q469 q470 q78 q471, rfl, by decide, by decide, by decide +kernel⟩
theorem v_X1_242 : SOK RX1 242 yX1_bytes cX1_bytes 3 (some .int) 1 := ⟨lw_S q493 q494 q76 q495, by decide, by decide, by decide +kernel⟩
theorem v_X1_248 : VOK RX1 248 RX1 yX1_put cX1_put 3 none 1 := ⟨lw_V q496 q498 qs3 q76 q499, rfl, by decide, by decide, by decide +kernel⟩
theorem v_X1_269 : VOK RX1 269 RX1 yX1_isText cX1_isText 2 (some .boolean) 1 := ⟨lw_V q877 q879 qs19 q76 q880, rfl, by decide, by decide, by decide +kernel⟩
theorem v_X1_286 : VOK RX1 286 RX1 yX1_let cX1_let 7 none 6 := ⟨lw_V q906 q908 qs23 q76 q909, rfl, by decide, by decide, by decide +kernel⟩
theorem ve_X18_21 : CondV RX18 21 := ⟨⟨lw_F q915 q919 q921 q101 q923, ⟨List.mem_of_getElem? (i := 71) rfl, List.mem_of_getElem? (i := 70) rfl, List.mem_of_getElem? (i := 47) rfl, List.mem_of_getElem? (i := 46) rfl, List.mem_of_getElem? (i := 45) rfl⟩, by decide, by decide, by decide +kernel⟩, ⟨lw_F q915 q953 q955 q95 q957, ⟨List.mem_of_getElem? (i := 71) rfl, List.mem_of_getElem? (i := 70) rfl, List.mem_of_getElem? (i := 37) rfl, List.mem_of_getElem? (i := 36) rfl, List.mem_of_getElem? (i := 35) rfl⟩, by decide, by decide, by decide +kernel⟩, ⟨lw_F q915 q961 q963 q94 q965, ⟨List.mem_of_getElem? (i := 71) rfl, List.mem_of_getElem? (i := 70) rfl, List.mem_of_getElem? (i := 34) rfl, List.mem_of_getElem? (i := 33) rfl, List.mem_of_getElem? (i := 32) rfl⟩, by decide, by decide, by decide +kernel⟩⟩
theorem ve_X17_20 : SumV RX17 20 := ⟨⟨lw_U q924 q926 q927 q928 q97 q929, List.mem_of_getElem? (i := 38) rfl, by decide, by decide, by decide +kernel⟩, ⟨lw_U q924 q926 q951 q933 q98 q934, List.mem_of_getElem? (i := 38) rfl, by decide, by decide, by decide +kernel⟩, ⟨lw_U q924 q926 q950 q931 q99 q932, List.mem_of_getElem? (i := 38) rfl, by decide, by decide, by decide +kernel⟩⟩
theorem ve_X13_28 : SumV RX13 28 := ⟨⟨lw_U q930 q926 q927 q928 q97 q929, List.mem_of_getElem? (i := 38) rfl, by decide, by decide, by decide +kernel⟩, ⟨lw_U q930 q926 q951 q933 q98 q934, List.mem_of_getElem? (i := 38) rfl, by decide, by decide, by decide +kernel⟩, ⟨lw_U q930 q926 q950 q931 q99 q932, List.mem_of_getElem? (i := 38) rfl, by decide, by decide, by decide +kernel⟩⟩
theorem vn_X16_17 : NOK RX16 17 yX1_bound "ClogHouse" cX1_bound 2 (some .int) 1 := ⟨lw_meth q941, List.mem_of_getElem? (i := 44) rfl, q76, q940, by decide, by decide, by decide +kernel⟩
theorem v_X13_35 : VOK RX13 35 RX16 yX16_with cX16_with 5 (some .int) 2 := ⟨lw_V q935 q936 q937 q100 q938, rfl, by decide, by decide, by decide +kernel⟩
theorem ve_X11_13 : CondV RX11 13 := ⟨⟨lw_F q959 q919 q921 q101 q923, ⟨List.mem_of_getElem? (i := 71) rfl, List.mem_of_getElem? (i := 70) rfl, List.mem_of_getElem? (i := 47) rfl, List.mem_of_getElem? (i := 46) rfl, List.mem_of_getElem? (i := 45) rfl⟩, by decide, by decide, by decide +kernel⟩, ⟨lw_F q959 q953 q955 q95 q957, ⟨List.mem_of_getElem? (i := 71) rfl, List.mem_of_getElem? (i := 70) rfl, List.mem_of_getElem? (i := 37) rfl, List.mem_of_getElem? (i := 36) rfl, List.mem_of_getElem? (i := 35) rfl⟩, by decide, by decide, by decide +kernel⟩, ⟨lw_F q959 q961 q963 q94 q965, ⟨List.mem_of_getElem? (i := 71) rfl, List.mem_of_getElem? (i := 70) rfl, List.mem_of_getElem? (i := 34) rfl, List.mem_of_getElem? (i := 33) rfl, List.mem_of_getElem? (i := 32) rfl⟩, by decide, by decide, by decide +kernel⟩⟩
theorem ve_X10_17 : CondV RX10 17 := ⟨⟨lw_F q967 q919 q921 q101 q923, ⟨List.mem_of_getElem? (i := 71) rfl, List.mem_of_getElem? (i := 70) rfl, List.mem_of_getElem? (i := 47) rfl, List.mem_of_getElem? (i := 46) rfl, List.mem_of_getElem? (i := 45) rfl⟩, by decide, by decide, by decide +kernel⟩, ⟨lw_F q967 q953 q955 q95 q957, ⟨List.mem_of_getElem? (i := 71) rfl, List.mem_of_getElem? (i := 70) rfl, List.mem_of_getElem? (i := 37) rfl, List.mem_of_getElem? (i := 36) rfl, List.mem_of_getElem? (i := 35) rfl⟩, by decide, by decide, by decide +kernel⟩, ⟨lw_F q967 q961 q963 q94 q965, ⟨List.mem_of_getElem? (i := 71) rfl, List.mem_of_getElem? (i := 70) rfl, List.mem_of_getElem? (i := 34) rfl, List.mem_of_getElem? (i := 33) rfl, List.mem_of_getElem? (i := 32) rfl⟩, by decide, by decide, by decide +kernel⟩⟩
theorem ve_X18_27 : SumV RX18 27 := ⟨⟨lw_U q968 q926 q927 q928 q97 q929, List.mem_of_getElem? (i := 38) rfl, by decide, by decide, by decide +kernel⟩, ⟨lw_U q968 q926 q951 q933 q98 q934, List.mem_of_getElem? (i := 38) rfl, by decide, by decide, by decide +kernel⟩, ⟨lw_U q968 q926 q950 q931 q99 q932, List.mem_of_getElem? (i := 38) rfl, by decide, by decide, by decide +kernel⟩⟩
theorem v_X1_290 : VOK RX1 290 RX18 yX18_worth cX18_worth 4 (some .int) 2 := ⟨lw_V q910 q911 q912 q102 q913, rfl, by decide, by decide, by decide +kernel⟩
theorem vu_X3_69 : UOK RX3 69 "ClogHouse$Cake" "ClogHouse$Part" ⟨"ClogHouse$Cake", "empties", "([I)V"⟩ yX4_empties cX4_empties 3 none 1 := ⟨lw_U q975 q976 q978 q979 q79 q980, rfl, by decide, by decide, by decide +kernel⟩
theorem vp_X7_45 : POK RX7 45 yX4_empties cX4_empties 3 none 1 := ⟨lw_SU q985 q1727 q394 q979 q79 q980, by decide, by decide +kernel⟩
theorem v_X3_73 : VOK RX3 73 RX7 yX7_empties cX7_empties 3 none 1 := ⟨lw_V q981 q982 q983 q82 q984, rfl, by decide, by decide, by decide +kernel⟩
theorem v_X1_323 : VOK RX1 323 RX3 yX3_change cX3_change 3 none 1 := ⟨lw_V q971 q972 q973 q78 q974, rfl, by decide, by decide, by decide +kernel⟩
theorem v_X1_315 : VOK RX1 315 RX1 yX1_decides cX1_decides 3 none 1 := ⟨lw_V q902 q904 qs22 q76 q905, rfl, by decide, by decide, by decide +kernel⟩
theorem v_X1_305 : VOK RX1 305 RX1 yX1_begins cX1_begins 3 none 1 := ⟨lw_V q898 q900 qs21 q76 q901, rfl, by decide, by decide, by decide +kernel⟩
theorem v_X3_80 : VOK RX3 80 RX7 yX7_wash cX7_wash 8 none 3 := ⟨lw_V q990 q991 q992 q82 q993, rfl, by decide, by decide, by decide +kernel⟩
theorem v_X1_308 : VOK RX1 308 RX3 yX3_wash cX3_wash 5 none 3 := ⟨lw_V q986 q987 q988 q78 q989, rfl, by decide, by decide, by decide +kernel⟩
theorem v_X1_327 : VOK RX1 327 RX1 yX1_parts cX1_parts 5 none 0 := ⟨lw_V q999 q1001 qs25 q76 q1002, rfl, by decide, by decide, by decide +kernel⟩
theorem v_X7_60 : VOK RX7 60 RX2 yX2_share cX2_share 3 (some .int) 2 := ⟨lw_V q1016 q1017 q1018 q77 q1019, rfl, by decide, by decide, by decide +kernel⟩
theorem v_X3_99 : VOK RX3 99 RX7 yX7_holds cX7_holds 6 (some .int) 4 := ⟨lw_V q1012 q1013 q1014 q82 q1015, rfl, by decide, by decide, by decide +kernel⟩
theorem v_X1_341 : VOK RX1 341 RX3 yX3_pass cX3_pass 6 none 2 := ⟨lw_V q1008 q1009 q1010 q78 q1011, rfl, by decide, by decide, by decide +kernel⟩
theorem v_X1_345 : VOK RX1 345 RX3 yX3_comes cX3_comes 3 (some .int) 0 := ⟨lw_V q1021 q1022 q1023 q78 q1024, rfl, by decide, by decide, by decide +kernel⟩
theorem v_X1_333 : VOK RX1 333 RX1 yX1_goes cX1_goes 4 none 1 := ⟨lw_V q1004 q1006 qs26 q76 q1007, rfl, by decide, by decide, by decide +kernel⟩
theorem v_X1_312 : VOK RX1 312 RX1 yX1_runs cX1_runs 4 none 0 := ⟨lw_V q995 q997 qs24 q76 q998, rfl, by decide, by decide, by decide +kernel⟩
theorem v_X1_302 : VOK RX1 302 RX1 yX1_hour cX1_hour 3 none 0 := ⟨lw_V q894 q896 qs20 q76 q897, rfl, by decide, by decide, by decide +kernel⟩
theorem v_X1_353 : VOK RX1 353 RX1 yX1_history cX1_history 4 (some .int) 3 := ⟨lw_V q1037 q1030 q1031 q76 q1032, rfl, by decide, by decide, by decide +kernel⟩
theorem v_X1_361 : SOK RX1 361 yX1_isTest cX1_isTest 3 (some .boolean) 3 := ⟨lw_S q1046 q1047 q76 q1048, by decide, by decide, by decide +kernel⟩
theorem v_X1_356 : SOK RX1 356 yX1_gcd cX1_gcd 10 (some .long) 2 := ⟨lw_S q1054 q1055 q76 q1056, by decide, by decide, by decide +kernel⟩
theorem v_X1_367 : SOK RX1 367 yX1_ways cX1_ways 7 (some .long) 2 := ⟨lw_S q1051 q1052 q76 q1053, by decide, by decide, by decide +kernel⟩
theorem v_X1_371 : VOK RX1 371 RX1 yX1_share cX1_share 11 (some .long) 4 := ⟨lw_V q1061 q1043 q1044 q76 q1045, rfl, by decide, by decide, by decide +kernel⟩
theorem v_X1_377 : VOK RX1 377 RX1 yX1_lasts cX1_lasts 5 (some .int) 1 := ⟨lw_V q1074 q1076 qs28 q76 q1077, rfl, by decide, by decide, by decide +kernel⟩
theorem v_X1_389 : VOK RX1 389 RX1 yX1_tryLayers cX1_tryLayers 5 none 3 := ⟨lw_V q1070 q1072 qs27 q76 q1073, rfl, by decide, by decide, by decide +kernel⟩
theorem v_X1_400 : VOK RX1 400 RX1 yX1_costOf cX1_costOf 2 (some .int) 1 := ⟨lw_V q1095 q1097 qs30 q76 q1098, rfl, by decide, by decide, by decide +kernel⟩
theorem v_X1_403 : VOK RX1 403 RX1 yX1_cheapAt cX1_cheapAt 3 (some .int) 2 := ⟨lw_V q1099 q1101 qs31 q76 q1102, rfl, by decide, by decide, by decide +kernel⟩
theorem v_X1_406 : VOK RX1 406 RX1 yX1_stays cX1_stays 3 (some .int) 2 := ⟨lw_V q1091 q1093 qs29 q76 q1094, rfl, by decide, by decide, by decide +kernel⟩
theorem v_X1_409 : VOK RX1 409 RX1 yX1_changes cX1_changes 2 (some .int) 1 := ⟨lw_V q1103 q1105 qs32 q76 q1106, rfl, by decide, by decide, by decide +kernel⟩
theorem v_X1_415 : SOK RX1 415 yX7_resistOf cX7_resistOf 1 (some .int) 1 := ⟨lw_S q1119 q443 q82 q444, by decide, by decide, by decide +kernel⟩
theorem v_X1_418 : VOK RX1 418 RX1 yX1_goes_2 cX1_goes_2 8 (some .boolean) 5 := ⟨lw_V q1115 q1117 qs33 q76 q1118, rfl, by decide, by decide, by decide +kernel⟩
theorem vu_X1_423 : UOK RX1 423 "ClogHouse$Cake" "ClogHouse$Part" ⟨"ClogHouse$Cake", "of", "(I)I"⟩ yX4_of cX4_of 2 (some .int) 1 := ⟨lw_U q1129 q1130 q1132 q424 q79 q426, rfl, by decide, by decide, by decide +kernel⟩
theorem vu_X1_426 : UOK RX1 426 "ClogHouse$Cell" "ClogHouse$Part" ⟨"ClogHouse$Cell", "of", "(I)I"⟩ yX4_of cX4_of 2 (some .int) 1 := ⟨lw_U q1133 q1134 q1135 q424 q79 q426, rfl, by decide, by decide, by decide +kernel⟩
theorem v_X1_427 : VOK RX1 427 RX1 yX1_countOf cX1_countOf 4 (some .int) 1 := ⟨lw_V q1144 q1146 qs34 q76 q1147, rfl, by decide, by decide, by decide +kernel⟩
theorem vc_X13_1 : IOKi RX13 1 yX12_init cX12_init 1 0 := ⟨Or.inr ⟨"ClogHouse", List.mem_of_getElem? (i := 39) rfl⟩, q759, q760, q96, rfl, by decide, by decide, by decide +kernel⟩
theorem vc_X14_1 : IOKi RX14 1 yX12_init cX12_init 1 0 := ⟨Or.inr ⟨"ClogHouse", List.mem_of_getElem? (i := 42) rfl⟩, q759, q760, q96, rfl, by decide, by decide, by decide +kernel⟩
theorem vc_X15_1 : IOKi RX15 1 yX12_init cX12_init 1 0 := ⟨Or.inr ⟨"ClogHouse", List.mem_of_getElem? (i := 43) rfl⟩, q759, q760, q96, rfl, by decide, by decide, by decide +kernel⟩
