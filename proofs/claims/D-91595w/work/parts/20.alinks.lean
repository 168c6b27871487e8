set_option maxRecDepth 100000
theorem fl_X13_22_8 : FLk RX13 22 TX13 2 := Or.inl ⟨"ClogHouse$Chain", q782, Or.inl rfl⟩
theorem fl_X8_27_5 : FLk RX8 27 TX8 3 := Or.inl ⟨"ClogHouse$Reader", q518, Or.inl rfl⟩
theorem fl_X8_83_6 : FLk RX8 83 TX10 2 := Or.inr ⟨"ClogHouse$Several", "ClogHouse", List.mem_of_getElem? (i := 67) rfl, Or.inl rfl⟩
theorem fl_X8_42_13 : FLk RX8 42 TX18 3 := Or.inr ⟨"ClogHouse$Clause", "ClogHouse", List.mem_of_getElem? (i := 68) rfl, Or.inl rfl⟩
theorem fl_X2_15_1 : FLk RX2 15 TX2 1 := Or.inl ⟨"ClogHouse$Grains", q121, Or.inl rfl⟩
theorem fl_X2_18_1 : FLk RX2 18 TX2 2 := Or.inl ⟨"ClogHouse$Grains", q124, Or.inl rfl⟩
theorem fl_X3_34_2 : FLk RX3 34 TX3 12 := Or.inl ⟨"ClogHouse$Filter", q187, Or.inl rfl⟩
theorem fl_X1_263_15 : FLk RX1 263 TX9 6 := Or.inr ⟨"ClogHouse$Wrong", "ClogHouse", List.mem_of_getElem? (i := 31) rfl, Or.inl rfl⟩
theorem vc_X13_15 : IOKi RX13 15 yX16_init cX16_init 3 2 := ⟨Or.inl q796, q797, q798, q100, rfl, by decide, by decide, by decide +kernel⟩
theorem v_X8_30 : VOK RX8 30 RX8 yX8_take cX8_take 2 (some .int) 1 := ⟨lw_V q625 q627 qs6 q84 q628, rfl, by decide, by decide, by decide +kernel⟩
theorem v_X8_34 : VOK RX8 34 RX8 yX8_look cX8_look 1 (some .int) 0 := ⟨lw_V q536 q538 qs5 q84 q539, rfl, by decide, by decide, by decide +kernel⟩
theorem v_X8_131 : VOK RX8 131 RX8 yX8_isDigit cX8_isDigit 1 (some .boolean) 0 := ⟨lw_V q751 q753 qs17 q84 q754, rfl, by decide, by decide, by decide +kernel⟩
theorem v_X8_89 : VOK RX8 89 RX8 yX8_goIn cX8_goIn 2 none 0 := ⟨lw_V q712 q714 qs11 q84 q715, rfl, by decide, by decide, by decide +kernel⟩
theorem v_X8_64 : VOK RX8 64 RX8 yX8_sum cX8_sum 3 (some (.object "ClogHouse$Sum")) 0 := ⟨lw_V q730 q732 qs13 q84 q733, rfl, by decide, by decide, by decide +kernel⟩
theorem v_X8_97 : VOK RX8 97 RX8 yX8_goOut cX8_goOut 3 none 1 := ⟨lw_V q726 q728 qs12 q84 q729, rfl, by decide, by decide, by decide +kernel⟩
theorem vx_X8_50 : VOK RX8 50 RJ1 yJ1_indexOf cJ1_indexOf 2 (some .int) 1 := ⟨lw_V q541 q542 q543 q85 q544, rfl, by decide, by decide, by decide +kernel⟩
theorem v_X8_124 : VOK RX8 124 RX8 yX8_number cX8_number 3 (some .int) 0 := ⟨lw_V q747 q749 qs16 q84 q750, rfl, by decide, by decide, by decide +kernel⟩
theorem vc_X8_127 : IOKi RX8 127 yX14_init cX14_init 2 1 := ⟨Or.inl q755, q756, q757, q98, rfl, by decide, by decide, by decide +kernel⟩
theorem vc_X8_130 : IOKi RX8 130 yX15_init cX15_init 2 1 := ⟨Or.inl q768, q769, q770, q99, rfl, by decide, by decide, by decide +kernel⟩
theorem v_X8_117 : VOK RX8 117 RX8 yX8_atom cX8_atom 3 (some (.object "ClogHouse$Sum")) 0 := ⟨lw_V q740 q742 qs15 q84 q743, rfl, by decide, by decide, by decide +kernel⟩
theorem vc_X8_110 : IOKi RX8 110 yX13_init cX13_init 2 1 := ⟨Or.inl q776, q777, q778, q97, rfl, by decide, by decide, by decide +kernel⟩
theorem v_X8_113 : VOK RX8 113 RX13 yX13_add cX13_add 4 none 2 := ⟨lw_V q790 q791 q792 q97 q793, rfl, by decide, by decide, by decide +kernel⟩
theorem v_X8_107 : VOK RX8 107 RX8 yX8_term cX8_term 3 (some (.object "ClogHouse$Sum")) 0 := ⟨lw_V q736 q738 qs14 q84 q739, rfl, by decide, by decide, by decide +kernel⟩
theorem v_X8_86 : VOK RX8 86 RX8 yX8_unit cX8_unit 5 (some (.object "ClogHouse$Condition")) 1 := ⟨lw_V q708 q710 qs10 q84 q711, rfl, by decide, by decide, by decide +kernel⟩
theorem vc_X8_94 : IOKi RX8 94 yX11_init cX11_init 2 1 := ⟨Or.inl q718, q719, q720, q95, rfl, by decide, by decide, by decide +kernel⟩
theorem vc_X8_80 : IOKi RX8 80 yX10_init cX10_init 3 2 := ⟨Or.inl q830, q831, q832, q94, rfl, by decide, by decide, by decide +kernel⟩
theorem v_X8_77 : VOK RX8 77 RX8 yX8_part cX8_part 4 (some (.object "ClogHouse$Condition")) 1 := ⟨lw_V q704 q706 qs9 q84 q707, rfl, by decide, by decide, by decide +kernel⟩
theorem v_X8_56 : VOK RX8 56 RX8 yX8_condition cX8_condition 4 (some (.object "ClogHouse$Condition")) 1 := ⟨lw_V q698 q700 qs8 q84 q701, rfl, by decide, by decide, by decide +kernel⟩
theorem v_X8_68 : SOK RX8 68 yX8_isSign cX8_isSign 1 (some .boolean) 1 := ⟨lw_S q811 q812 q84 q813, by decide, by decide, by decide +kernel⟩
theorem vc_X8_102 : IOKi RX8 102 yX17_init cX17_init 4 3 := ⟨Or.inl q816, q817, q818, q101, rfl, by decide, by decide, by decide +kernel⟩
theorem vc_X8_72 : IOKi RX8 72 yX18_init cX18_init 4 3 := ⟨Or.inl q851, q852, q853, q102, rfl, by decide, by decide, by decide +kernel⟩
theorem v_X8_60 : VOK RX8 60 RX8 yX8_with cX8_with 4 (some (.object "ClogHouse$Clause")) 2 := ⟨lw_V q845 q847 qs18 q84 q848, rfl, by decide, by decide, by decide +kernel⟩
theorem v_X8_38 : VOK RX8 38 RX8 yX8_clause cX8_clause 5 (some (.object "ClogHouse$Clause")) 0 := ⟨lw_V q532 q534 qs4 q84 q535, rfl, by decide, by decide, by decide +kernel⟩
theorem vc_X7_3 : IOKi RX7 3 yX4_init cX4_init 1 0 := ⟨Or.inr ⟨"ClogHouse", List.mem_of_getElem? (i := 63) rfl⟩, q154, q155, q79, rfl, by decide, by decide, by decide +kernel⟩
theorem vc_X5_1 : IOKi RX5 1 yX4_init cX4_init 1 0 := ⟨Or.inr ⟨"ClogHouse", List.mem_of_getElem? (i := 57) rfl⟩, q154, q155, q79, rfl, by decide, by decide, by decide +kernel⟩
theorem vc_X3_19 : IOKi RX3 19 yX5_init cX5_init 1 0 := ⟨Or.inr ⟨"ClogHouse", List.mem_of_getElem? (i := 52) rfl⟩, q151, q152, q80, rfl, by decide, by decide, by decide +kernel⟩
theorem vc_X1_254 : IOKi RX1 254 yX8_init cX8_init 3 2 := ⟨Or.inl q511, q512, q513, q84, rfl, by decide, by decide, by decide +kernel⟩
theorem v_X1_257 : VOK RX1 257 RX8 yX8_whole cX8_whole 4 (some (.object "ClogHouse$Clause")) 0 := ⟨lw_V q528 q529 q530 q84 q531, rfl, by decide, by decide, by decide +kernel⟩
theorem vc_X1_97 : IOKi RX1 97 yX3_init cX3_init 1 0 := ⟨Or.inr ⟨"ClogHouse", List.mem_of_getElem? (i := 11) rfl⟩, q144, q145, q78, rfl, by decide, by decide, by decide +kernel⟩
theorem vc_X1_159 : IOKi RX1 159 yX7_init cX7_init 3 2 := ⟨Or.inl q373, q374, q375, q82, rfl, by decide, by decide, by decide +kernel⟩
theorem vc_X1_17 : IOKi RX1 17 yX2_init cX2_init 1 0 := ⟨Or.inr ⟨"ClogHouse", List.mem_of_getElem? (i := 7) rfl⟩, q116, q117, q77, rfl, by decide, by decide, by decide +kernel⟩
theorem vx_X1_278 : VOK RX1 278 RJ1 yJ1_indexOf cJ1_indexOf 2 (some .int) 1 := ⟨lw_V q1157 q542 q543 q85 q544, rfl, by decide, by decide, by decide +kernel⟩
theorem v_X0_7 : VOK RX0 7 RX1 yX1_worth cX1_worth 9 (some .int) 8 := ⟨lw_V q1152 q1153 q1154 q76 q1155, rfl, by decide, by decide, by decide +kernel⟩
