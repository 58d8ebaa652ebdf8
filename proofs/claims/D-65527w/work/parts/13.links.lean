/-! what the tables link, by places in lw_tbl (printed by gen/links.py) -/
set_option maxRecDepth 20000 in
theorem k_HT : jy_CF 0 (R_HT, F_HT, 15) t_HT := ⟨rfl, by decide, by decide +kernel, by decide +kernel, by decide +kernel⟩
set_option maxRecDepth 20000 in
theorem k_RD : jy_CF 1 (R_RD, F_RD, 3) t_RD := ⟨rfl, by decide, by decide +kernel, by decide +kernel, by decide +kernel⟩
set_option maxRecDepth 20000 in
theorem k_TB : jy_CF 2 (R_TB, F_TB, 3) t_TB := ⟨rfl, by decide, by decide +kernel, by decide +kernel, by decide +kernel⟩
set_option maxRecDepth 20000 in
theorem k_MA : jy_CF 3 (R_MA, F_MA, 6) t_MA := ⟨rfl, by decide, by decide +kernel, by decide +kernel, by decide +kernel⟩
set_option maxRecDepth 20000 in
theorem k_DU : jy_CF 4 (R_DU, F_DU, 3) t_DU := ⟨rfl, by decide, by decide +kernel, by decide +kernel, by decide +kernel⟩
set_option maxRecDepth 20000 in
theorem k_PT : jy_CF 5 (R_PT, F_PT, 4) t_PT := ⟨rfl, by decide, by decide +kernel, by decide +kernel, by decide +kernel⟩
set_option maxRecDepth 20000 in
theorem k_BU : jy_CF 6 (R_BU, F_BU, 3) t_BU := ⟨rfl, by decide, by decide +kernel, by decide +kernel, by decide +kernel⟩
set_option maxRecDepth 20000 in
theorem k_MO : jy_CF 7 (R_MO, F_MO, 30) t_MO := ⟨rfl, by decide, by decide +kernel, by decide +kernel, by decide +kernel⟩
set_option maxRecDepth 20000 in
theorem k_IB : jy_CF 9 (R_IB, F_IB, 0) t_IB := ⟨rfl, by decide, by decide +kernel, by decide +kernel, by decide +kernel⟩
set_option maxRecDepth 20000 in
theorem k_UO : jy_CF 10 (R_UO, F_UO, 0) t_UO := ⟨rfl, by decide, by decide +kernel, by decide +kernel, by decide +kernel⟩
set_option maxRecDepth 20000 in
theorem k_IS : jy_CF 11 (R_IS, F_IS, 0) t_IS := ⟨rfl, by decide, by decide +kernel, by decide +kernel, by decide +kernel⟩
set_option maxRecDepth 20000 in
theorem k_IA : jy_CF 12 (R_IA, F_IA, 0) t_IA := ⟨rfl, by decide, by decide +kernel, by decide +kernel, by decide +kernel⟩
set_option maxRecDepth 20000 in
theorem f_HT_10 : jy_F "HazardTables" 10 0 0 (.object "HazardTables$Reader") true := ⟨_, _, k_HT, by decide, Or.inl (List.mem_of_getElem? (i := 101) rfl), rfl, rfl, rfl⟩
set_option maxRecDepth 20000 in
theorem f_HT_19 : jy_F "HazardTables" 19 0 1 (.object "HazardTables$Table") false := ⟨_, _, k_HT, by decide, Or.inl (List.mem_of_getElem? (i := 102) rfl), rfl, rfl, rfl⟩
set_option maxRecDepth 20000 in
theorem f_HT_23 : jy_F "HazardTables" 23 0 2 .int false := ⟨_, _, k_HT, by decide, Or.inl (List.mem_of_getElem? (i := 103) rfl), rfl, rfl, rfl⟩
set_option maxRecDepth 20000 in
theorem f_HT_27 : jy_F "HazardTables" 27 0 3 (.array .byte) true := ⟨_, _, k_HT, by decide, Or.inl (List.mem_of_getElem? (i := 104) rfl), rfl, rfl, rfl⟩
set_option maxRecDepth 20000 in
theorem f_HT_31 : jy_F "HazardTables" 31 0 5 (.array .int) true := ⟨_, _, k_HT, by decide, Or.inl (List.mem_of_getElem? (i := 106) rfl), rfl, rfl, rfl⟩
set_option maxRecDepth 20000 in
theorem f_HT_37 : jy_F "HazardTables" 37 0 6 (.array (.object "HazardTables$Part")) true := ⟨_, _, k_HT, by decide, Or.inl (List.mem_of_getElem? (i := 107) rfl), rfl, rfl, rfl⟩
set_option maxRecDepth 20000 in
theorem f_HT_43 : jy_F "HazardTables" 43 0 7 (.array (.object "HazardTables$Building")) true := ⟨_, _, k_HT, by decide, Or.inl (List.mem_of_getElem? (i := 108) rfl), rfl, rfl, rfl⟩
set_option maxRecDepth 20000 in
theorem f_HT_47 : jy_F "HazardTables" 47 0 10 .int false := ⟨_, _, k_HT, by decide, Or.inl (List.mem_of_getElem? (i := 111) rfl), rfl, rfl, rfl⟩
set_option maxRecDepth 20000 in
theorem f_HT_50 : jy_F "HazardTables" 50 0 12 .int false := ⟨_, _, k_HT, by decide, Or.inl (List.mem_of_getElem? (i := 113) rfl), rfl, rfl, rfl⟩
set_option maxRecDepth 20000 in
theorem f_HT_53 : jy_F "HazardTables" 53 0 13 .boolean false := ⟨_, _, k_HT, by decide, Or.inl (List.mem_of_getElem? (i := 114) rfl), rfl, rfl, rfl⟩
set_option maxRecDepth 20000 in
theorem f_HT_57 : jy_F "HazardTables" 57 0 14 (.array .int) true := ⟨_, _, k_HT, by decide, Or.inl (List.mem_of_getElem? (i := 115) rfl), rfl, rfl, rfl⟩
set_option maxRecDepth 20000 in
theorem f_HT_80 : jy_F "HazardTables" 80 1 1 .int false := ⟨_, _, k_RD, by decide, Or.inr ⟨"HazardTables", (List.mem_of_getElem? (i := 64) rfl)⟩, rfl, rfl, rfl⟩
set_option maxRecDepth 20000 in
theorem f_HT_86 : jy_F "HazardTables" 86 1 0 (.array .byte) true := ⟨_, _, k_RD, by decide, Or.inr ⟨"HazardTables", (List.mem_of_getElem? (i := 62) rfl)⟩, rfl, rfl, rfl⟩
set_option maxRecDepth 20000 in
theorem f_HT_95 : jy_F "HazardTables" 95 8 0 .int true := ⟨_, _, k_WR, by decide, Or.inl (List.mem_of_getElem? (i := 301) rfl), rfl, rfl, rfl⟩
set_option maxRecDepth 20000 in
theorem f_HT_99 : jy_F "HazardTables" 99 0 4 .int false := ⟨_, _, k_HT, by decide, Or.inl (List.mem_of_getElem? (i := 105) rfl), rfl, rfl, rfl⟩
set_option maxRecDepth 20000 in
theorem f_HT_105 : jy_F "HazardTables" 105 2 1 .int false := ⟨_, _, k_TB, by decide, Or.inr ⟨"HazardTables", (List.mem_of_getElem? (i := 86) rfl)⟩, rfl, rfl, rfl⟩
set_option maxRecDepth 20000 in
theorem f_HT_115 : jy_F "HazardTables" 115 2 2 (.object "HazardTables$Due") false := ⟨_, _, k_TB, by decide, Or.inr ⟨"HazardTables", (List.mem_of_getElem? (i := 88) rfl)⟩, rfl, rfl, rfl⟩
set_option maxRecDepth 20000 in
theorem f_HT_119 : jy_F "HazardTables" 119 3 5 (.object "HazardTables$Due") false := ⟨_, _, k_MA, by decide, Or.inr ⟨"HazardTables", (List.mem_of_getElem? (i := 344) rfl)⟩, rfl, rfl, rfl⟩
set_option maxRecDepth 20000 in
theorem f_HT_124 : jy_F "HazardTables" 124 3 3 .int false := ⟨_, _, k_MA, by decide, Or.inr ⟨"HazardTables", (List.mem_of_getElem? (i := 339) rfl)⟩, rfl, rfl, rfl⟩
set_option maxRecDepth 20000 in
theorem f_HT_127 : jy_F "HazardTables" 127 4 0 .int false := ⟨_, _, k_DU, by decide, Or.inr ⟨"HazardTables", (List.mem_of_getElem? (i := 381) rfl)⟩, rfl, rfl, rfl⟩
set_option maxRecDepth 20000 in
theorem f_HT_132 : jy_F "HazardTables" 132 4 1 .int false := ⟨_, _, k_DU, by decide, Or.inr ⟨"HazardTables", (List.mem_of_getElem? (i := 383) rfl)⟩, rfl, rfl, rfl⟩
set_option maxRecDepth 20000 in
theorem f_HT_135 : jy_F "HazardTables" 135 3 4 .int false := ⟨_, _, k_MA, by decide, Or.inr ⟨"HazardTables", (List.mem_of_getElem? (i := 342) rfl)⟩, rfl, rfl, rfl⟩
set_option maxRecDepth 20000 in
theorem f_HT_138 : jy_F "HazardTables" 138 3 2 .int false := ⟨_, _, k_MA, by decide, Or.inr ⟨"HazardTables", (List.mem_of_getElem? (i := 336) rfl)⟩, rfl, rfl, rfl⟩
set_option maxRecDepth 20000 in
theorem f_HT_139 : jy_F "HazardTables" 139 4 2 (.array .int) true := ⟨_, _, k_DU, by decide, Or.inr ⟨"HazardTables", (List.mem_of_getElem? (i := 385) rfl)⟩, rfl, rfl, rfl⟩
set_option maxRecDepth 20000 in
theorem f_HT_148 : jy_F "HazardTables" 148 3 1 (.array (.array .byte)) true := ⟨_, _, k_MA, by decide, Or.inr ⟨"HazardTables", (List.mem_of_getElem? (i := 334) rfl)⟩, rfl, rfl, rfl⟩
set_option maxRecDepth 20000 in
theorem f_HT_162 : jy_F "HazardTables" 162 2 0 (.array (.object "HazardTables$Material")) true := ⟨_, _, k_TB, by decide, Or.inr ⟨"HazardTables", (List.mem_of_getElem? (i := 84) rfl)⟩, rfl, rfl, rfl⟩
set_option maxRecDepth 20000 in
theorem f_HT_169 : jy_F "HazardTables" 169 3 0 .int true := ⟨_, _, k_MA, by decide, Or.inl (List.mem_of_getElem? (i := 332) rfl), rfl, rfl, rfl⟩
set_option maxRecDepth 20000 in
theorem f_HT_173 : jy_F "HazardTables" 173 0 8 .int false := ⟨_, _, k_HT, by decide, Or.inl (List.mem_of_getElem? (i := 109) rfl), rfl, rfl, rfl⟩
set_option maxRecDepth 20000 in
theorem f_HT_183 : jy_F "HazardTables" 183 5 2 (.object "HazardTables$Due") true := ⟨_, _, k_PT, by decide, Or.inl (List.mem_of_getElem? (i := 496) rfl), rfl, rfl, rfl⟩
set_option maxRecDepth 20000 in
theorem f_HT_187 : jy_F "HazardTables" 187 5 3 .boolean true := ⟨_, _, k_PT, by decide, Or.inl (List.mem_of_getElem? (i := 498) rfl), rfl, rfl, rfl⟩
set_option maxRecDepth 20000 in
theorem f_HT_203 : jy_F "HazardTables" 203 5 0 .int true := ⟨_, _, k_PT, by decide, Or.inl (List.mem_of_getElem? (i := 493) rfl), rfl, rfl, rfl⟩
set_option maxRecDepth 20000 in
theorem f_HT_208 : jy_F "HazardTables" 208 0 9 .int false := ⟨_, _, k_HT, by decide, Or.inl (List.mem_of_getElem? (i := 110) rfl), rfl, rfl, rfl⟩
set_option maxRecDepth 20000 in
theorem f_HT_214 : jy_F "HazardTables" 214 0 11 .int false := ⟨_, _, k_HT, by decide, Or.inl (List.mem_of_getElem? (i := 112) rfl), rfl, rfl, rfl⟩
set_option maxRecDepth 20000 in
theorem f_HT_219 : jy_F "HazardTables" 219 6 0 .int true := ⟨_, _, k_BU, by decide, Or.inl (List.mem_of_getElem? (i := 569) rfl), rfl, rfl, rfl⟩
set_option maxRecDepth 20000 in
theorem f_HT_222 : jy_F "HazardTables" 222 6 1 .int true := ⟨_, _, k_BU, by decide, Or.inl (List.mem_of_getElem? (i := 571) rfl), rfl, rfl, rfl⟩
set_option maxRecDepth 20000 in
theorem f_HT_228 : jy_F "HazardTables" 228 6 2 .boolean false := ⟨_, _, k_BU, by decide, Or.inr ⟨"HazardTables", (List.mem_of_getElem? (i := 572) rfl)⟩, rfl, rfl, rfl⟩
set_option maxRecDepth 20000 in
theorem f_BU_7 : jy_F "HazardTables$Building" 7 6 0 .int true := ⟨_, _, k_BU, by decide, Or.inl (List.mem_of_getElem? (i := 568) rfl), rfl, rfl, rfl⟩
set_option maxRecDepth 20000 in
theorem f_BU_13 : jy_F "HazardTables$Building" 13 6 1 .int true := ⟨_, _, k_BU, by decide, Or.inl (List.mem_of_getElem? (i := 570) rfl), rfl, rfl, rfl⟩
set_option maxRecDepth 20000 in
theorem f_DU_7 : jy_F "HazardTables$Due" 7 4 2 (.array .int) true := ⟨_, _, k_DU, by decide, Or.inl (List.mem_of_getElem? (i := 384) rfl), rfl, rfl, rfl⟩
set_option maxRecDepth 20000 in
theorem f_MA_11 : jy_F "HazardTables$Material" 11 3 1 (.array (.array .byte)) true := ⟨_, _, k_MA, by decide, Or.inl (List.mem_of_getElem? (i := 333) rfl), rfl, rfl, rfl⟩
set_option maxRecDepth 20000 in
theorem f_MA_17 : jy_F "HazardTables$Material" 17 3 0 .int true := ⟨_, _, k_MA, by decide, Or.inl (List.mem_of_getElem? (i := 330) rfl), rfl, rfl, rfl⟩
set_option maxRecDepth 20000 in
theorem f_PT_9 : jy_F "HazardTables$Part" 9 5 0 .int true := ⟨_, _, k_PT, by decide, Or.inl (List.mem_of_getElem? (i := 492) rfl), rfl, rfl, rfl⟩
set_option maxRecDepth 20000 in
theorem f_PT_15 : jy_F "HazardTables$Part" 15 5 1 (.object "HazardTables$Material") true := ⟨_, _, k_PT, by decide, Or.inl (List.mem_of_getElem? (i := 494) rfl), rfl, rfl, rfl⟩
set_option maxRecDepth 20000 in
theorem f_PT_19 : jy_F "HazardTables$Part" 19 5 2 (.object "HazardTables$Due") true := ⟨_, _, k_PT, by decide, Or.inl (List.mem_of_getElem? (i := 495) rfl), rfl, rfl, rfl⟩
set_option maxRecDepth 20000 in
theorem f_PT_23 : jy_F "HazardTables$Part" 23 5 3 .boolean true := ⟨_, _, k_PT, by decide, Or.inl (List.mem_of_getElem? (i := 497) rfl), rfl, rfl, rfl⟩
set_option maxRecDepth 20000 in
theorem f_PT_27 : jy_F "HazardTables$Part" 27 3 3 .int false := ⟨_, _, k_MA, by decide, Or.inr ⟨"HazardTables", (List.mem_of_getElem? (i := 338) rfl)⟩, rfl, rfl, rfl⟩
set_option maxRecDepth 20000 in
theorem f_PT_32 : jy_F "HazardTables$Part" 32 3 4 .int false := ⟨_, _, k_MA, by decide, Or.inr ⟨"HazardTables", (List.mem_of_getElem? (i := 341) rfl)⟩, rfl, rfl, rfl⟩
set_option maxRecDepth 20000 in
theorem f_RD_9 : jy_F "HazardTables$Reader" 9 1 0 (.array .byte) true := ⟨_, _, k_RD, by decide, Or.inl (List.mem_of_getElem? (i := 61) rfl), rfl, rfl, rfl⟩
set_option maxRecDepth 20000 in
theorem f_RD_15 : jy_F "HazardTables$Reader" 15 1 2 .int false := ⟨_, _, k_RD, by decide, Or.inl (List.mem_of_getElem? (i := 65) rfl), rfl, rfl, rfl⟩
set_option maxRecDepth 20000 in
theorem f_RD_19 : jy_F "HazardTables$Reader" 19 1 1 .int false := ⟨_, _, k_RD, by decide, Or.inl (List.mem_of_getElem? (i := 63) rfl), rfl, rfl, rfl⟩
set_option maxRecDepth 20000 in
theorem f_RD_55 : jy_F "HazardTables$Reader" 55 4 0 .int false := ⟨_, _, k_DU, by decide, Or.inr ⟨"HazardTables", (List.mem_of_getElem? (i := 380) rfl)⟩, rfl, rfl, rfl⟩
set_option maxRecDepth 20000 in
theorem f_RD_62 : jy_F "HazardTables$Reader" 62 4 1 .int false := ⟨_, _, k_DU, by decide, Or.inr ⟨"HazardTables", (List.mem_of_getElem? (i := 382) rfl)⟩, rfl, rfl, rfl⟩
set_option maxRecDepth 20000 in
theorem f_RD_65 : jy_F "HazardTables$Reader" 65 4 2 (.array .int) true := ⟨_, _, k_DU, by decide, Or.inr ⟨"HazardTables", (List.mem_of_getElem? (i := 386) rfl)⟩, rfl, rfl, rfl⟩
set_option maxRecDepth 20000 in
theorem f_RD_78 : jy_F "HazardTables$Reader" 78 3 1 (.array (.array .byte)) true := ⟨_, _, k_MA, by decide, Or.inr ⟨"HazardTables", (List.mem_of_getElem? (i := 335) rfl)⟩, rfl, rfl, rfl⟩
set_option maxRecDepth 20000 in
theorem f_RD_82 : jy_F "HazardTables$Reader" 82 3 2 .int false := ⟨_, _, k_MA, by decide, Or.inr ⟨"HazardTables", (List.mem_of_getElem? (i := 337) rfl)⟩, rfl, rfl, rfl⟩
set_option maxRecDepth 20000 in
theorem f_RD_89 : jy_F "HazardTables$Reader" 89 3 3 .int false := ⟨_, _, k_MA, by decide, Or.inr ⟨"HazardTables", (List.mem_of_getElem? (i := 340) rfl)⟩, rfl, rfl, rfl⟩
set_option maxRecDepth 20000 in
theorem f_RD_96 : jy_F "HazardTables$Reader" 96 3 5 (.object "HazardTables$Due") false := ⟨_, _, k_MA, by decide, Or.inr ⟨"HazardTables", (List.mem_of_getElem? (i := 345) rfl)⟩, rfl, rfl, rfl⟩
set_option maxRecDepth 20000 in
theorem f_RD_106 : jy_F "HazardTables$Reader" 106 3 4 .int false := ⟨_, _, k_MA, by decide, Or.inr ⟨"HazardTables", (List.mem_of_getElem? (i := 343) rfl)⟩, rfl, rfl, rfl⟩
set_option maxRecDepth 20000 in
theorem f_RD_109 : jy_F "HazardTables$Reader" 109 2 0 (.array (.object "HazardTables$Material")) true := ⟨_, _, k_TB, by decide, Or.inr ⟨"HazardTables", (List.mem_of_getElem? (i := 83) rfl)⟩, rfl, rfl, rfl⟩
set_option maxRecDepth 20000 in
theorem f_RD_113 : jy_F "HazardTables$Reader" 113 2 1 .int false := ⟨_, _, k_TB, by decide, Or.inr ⟨"HazardTables", (List.mem_of_getElem? (i := 87) rfl)⟩, rfl, rfl, rfl⟩
set_option maxRecDepth 20000 in
theorem f_RD_115 : jy_F "HazardTables$Reader" 115 2 2 (.object "HazardTables$Due") false := ⟨_, _, k_TB, by decide, Or.inr ⟨"HazardTables", (List.mem_of_getElem? (i := 89) rfl)⟩, rfl, rfl, rfl⟩
set_option maxRecDepth 20000 in
theorem f_TB_11 : jy_F "HazardTables$Table" 11 2 0 (.array (.object "HazardTables$Material")) true := ⟨_, _, k_TB, by decide, Or.inl (List.mem_of_getElem? (i := 82) rfl), rfl, rfl, rfl⟩
set_option maxRecDepth 20000 in
theorem f_TB_17 : jy_F "HazardTables$Table" 17 2 1 .int false := ⟨_, _, k_TB, by decide, Or.inl (List.mem_of_getElem? (i := 85) rfl), rfl, rfl, rfl⟩
set_option maxRecDepth 20000 in
theorem f_TB_21 : jy_F "HazardTables$Table" 21 3 0 .int true := ⟨_, _, k_MA, by decide, Or.inl (List.mem_of_getElem? (i := 331) rfl), rfl, rfl, rfl⟩
set_option maxRecDepth 20000 in
theorem f_MO_7 : jy_F "HazardTablesModel" 7 7 2 (.array .int) true := ⟨_, _, k_MO, by decide, Or.inl (List.mem_of_getElem? (i := 635) rfl), rfl, rfl, rfl⟩
set_option maxRecDepth 20000 in
theorem f_MO_13 : jy_F "HazardTablesModel" 13 7 3 .int false := ⟨_, _, k_MO, by decide, Or.inl (List.mem_of_getElem? (i := 636) rfl), rfl, rfl, rfl⟩
set_option maxRecDepth 20000 in
theorem f_MO_17 : jy_F "HazardTablesModel" 17 7 6 (.array .int) true := ⟨_, _, k_MO, by decide, Or.inl (List.mem_of_getElem? (i := 639) rfl), rfl, rfl, rfl⟩
set_option maxRecDepth 20000 in
theorem f_MO_20 : jy_F "HazardTablesModel" 20 7 9 (.array .int) true := ⟨_, _, k_MO, by decide, Or.inl (List.mem_of_getElem? (i := 642) rfl), rfl, rfl, rfl⟩
set_option maxRecDepth 20000 in
theorem f_MO_23 : jy_F "HazardTablesModel" 23 7 13 (.array .int) true := ⟨_, _, k_MO, by decide, Or.inl (List.mem_of_getElem? (i := 646) rfl), rfl, rfl, rfl⟩
set_option maxRecDepth 20000 in
theorem f_MO_26 : jy_F "HazardTablesModel" 26 7 14 (.array .int) true := ⟨_, _, k_MO, by decide, Or.inl (List.mem_of_getElem? (i := 647) rfl), rfl, rfl, rfl⟩
set_option maxRecDepth 20000 in
theorem f_MO_29 : jy_F "HazardTablesModel" 29 7 15 (.array .int) true := ⟨_, _, k_MO, by decide, Or.inl (List.mem_of_getElem? (i := 648) rfl), rfl, rfl, rfl⟩
set_option maxRecDepth 20000 in
theorem f_MO_32 : jy_F "HazardTablesModel" 32 7 16 .int false := ⟨_, _, k_MO, by decide, Or.inl (List.mem_of_getElem? (i := 649) rfl), rfl, rfl, rfl⟩
set_option maxRecDepth 20000 in
theorem f_MO_35 : jy_F "HazardTablesModel" 35 7 18 .boolean false := ⟨_, _, k_MO, by decide, Or.inl (List.mem_of_getElem? (i := 651) rfl), rfl, rfl, rfl⟩
set_option maxRecDepth 20000 in
theorem f_MO_39 : jy_F "HazardTablesModel" 39 7 20 (.array .int) true := ⟨_, _, k_MO, by decide, Or.inl (List.mem_of_getElem? (i := 653) rfl), rfl, rfl, rfl⟩
set_option maxRecDepth 20000 in
theorem f_MO_42 : jy_F "HazardTablesModel" 42 7 21 (.array .int) true := ⟨_, _, k_MO, by decide, Or.inl (List.mem_of_getElem? (i := 654) rfl), rfl, rfl, rfl⟩
set_option maxRecDepth 20000 in
theorem f_MO_45 : jy_F "HazardTablesModel" 45 7 22 (.array .boolean) true := ⟨_, _, k_MO, by decide, Or.inl (List.mem_of_getElem? (i := 655) rfl), rfl, rfl, rfl⟩
set_option maxRecDepth 20000 in
theorem f_MO_49 : jy_F "HazardTablesModel" 49 7 24 (.array .int) true := ⟨_, _, k_MO, by decide, Or.inl (List.mem_of_getElem? (i := 657) rfl), rfl, rfl, rfl⟩
set_option maxRecDepth 20000 in
theorem f_MO_52 : jy_F "HazardTablesModel" 52 7 25 .int false := ⟨_, _, k_MO, by decide, Or.inl (List.mem_of_getElem? (i := 658) rfl), rfl, rfl, rfl⟩
set_option maxRecDepth 20000 in
theorem f_MO_55 : jy_F "HazardTablesModel" 55 7 26 (.array .int) true := ⟨_, _, k_MO, by decide, Or.inl (List.mem_of_getElem? (i := 659) rfl), rfl, rfl, rfl⟩
set_option maxRecDepth 20000 in
theorem f_MO_58 : jy_F "HazardTablesModel" 58 7 28 (.array .int) true := ⟨_, _, k_MO, by decide, Or.inl (List.mem_of_getElem? (i := 661) rfl), rfl, rfl, rfl⟩
set_option maxRecDepth 20000 in
theorem f_MO_61 : jy_F "HazardTablesModel" 61 7 29 (.array .int) true := ⟨_, _, k_MO, by decide, Or.inl (List.mem_of_getElem? (i := 662) rfl), rfl, rfl, rfl⟩
set_option maxRecDepth 20000 in
theorem f_MO_64 : jy_F "HazardTablesModel" 64 7 0 .int false := ⟨_, _, k_MO, by decide, Or.inl (List.mem_of_getElem? (i := 633) rfl), rfl, rfl, rfl⟩
set_option maxRecDepth 20000 in
theorem f_MO_71 : jy_F "HazardTablesModel" 71 7 1 .int false := ⟨_, _, k_MO, by decide, Or.inl (List.mem_of_getElem? (i := 634) rfl), rfl, rfl, rfl⟩
set_option maxRecDepth 20000 in
theorem f_MO_78 : jy_F "HazardTablesModel" 78 7 10 .int false := ⟨_, _, k_MO, by decide, Or.inl (List.mem_of_getElem? (i := 643) rfl), rfl, rfl, rfl⟩
set_option maxRecDepth 20000 in
theorem f_MO_85 : jy_F "HazardTablesModel" 85 7 11 .int false := ⟨_, _, k_MO, by decide, Or.inl (List.mem_of_getElem? (i := 644) rfl), rfl, rfl, rfl⟩
set_option maxRecDepth 20000 in
theorem f_MO_110 : jy_F "HazardTablesModel" 110 7 7 .int false := ⟨_, _, k_MO, by decide, Or.inl (List.mem_of_getElem? (i := 640) rfl), rfl, rfl, rfl⟩
set_option maxRecDepth 20000 in
theorem f_MO_119 : jy_F "HazardTablesModel" 119 7 8 .boolean false := ⟨_, _, k_MO, by decide, Or.inl (List.mem_of_getElem? (i := 641) rfl), rfl, rfl, rfl⟩
set_option maxRecDepth 20000 in
theorem f_MO_128 : jy_F "HazardTablesModel" 128 7 4 .int false := ⟨_, _, k_MO, by decide, Or.inl (List.mem_of_getElem? (i := 637) rfl), rfl, rfl, rfl⟩
set_option maxRecDepth 20000 in
theorem f_MO_131 : jy_F "HazardTablesModel" 131 7 5 .boolean false := ⟨_, _, k_MO, by decide, Or.inl (List.mem_of_getElem? (i := 638) rfl), rfl, rfl, rfl⟩
set_option maxRecDepth 20000 in
theorem f_MO_134 : jy_F "HazardTablesModel" 134 7 27 .int false := ⟨_, _, k_MO, by decide, Or.inl (List.mem_of_getElem? (i := 660) rfl), rfl, rfl, rfl⟩
set_option maxRecDepth 20000 in
theorem f_MO_157 : jy_F "HazardTablesModel" 157 7 12 .int false := ⟨_, _, k_MO, by decide, Or.inl (List.mem_of_getElem? (i := 645) rfl), rfl, rfl, rfl⟩
set_option maxRecDepth 20000 in
theorem f_MO_171 : jy_F "HazardTablesModel" 171 7 17 .int false := ⟨_, _, k_MO, by decide, Or.inl (List.mem_of_getElem? (i := 650) rfl), rfl, rfl, rfl⟩
set_option maxRecDepth 20000 in
theorem f_MO_179 : jy_F "HazardTablesModel" 179 7 19 .int false := ⟨_, _, k_MO, by decide, Or.inl (List.mem_of_getElem? (i := 652) rfl), rfl, rfl, rfl⟩
set_option maxRecDepth 20000 in
theorem f_MO_185 : jy_F "HazardTablesModel" 185 7 23 .int false := ⟨_, _, k_MO, by decide, Or.inl (List.mem_of_getElem? (i := 656) rfl), rfl, rfl, rfl⟩
set_option maxRecDepth 20000 in
theorem e_HT_init : jy_MI m_HT_init := ⟨by decide, by decide, ⟨by decide, by decide⟩, (List.mem_of_getElem? (i := 29) rfl), Or.inl ⟨rfl, (List.mem_of_getElem? (i := 51) rfl)⟩⟩
set_option maxRecDepth 20000 in
theorem e_RD_init : jy_MI m_RD_init := ⟨by decide, by decide, ⟨by decide, by decide⟩, (List.mem_of_getElem? (i := 30) rfl), Or.inl ⟨rfl, (List.mem_of_getElem? (i := 59) rfl)⟩⟩
set_option maxRecDepth 20000 in
theorem e_TB_init : jy_MI m_TB_init := ⟨by decide, by decide, ⟨by decide, by decide⟩, (List.mem_of_getElem? (i := 31) rfl), Or.inl ⟨rfl, (List.mem_of_getElem? (i := 78) rfl)⟩⟩
set_option maxRecDepth 20000 in
theorem e_HT_place : jy_MI m_HT_place := ⟨by decide, by decide, ⟨by decide, by decide⟩, (List.mem_of_getElem? (i := 29) rfl), Or.inl ⟨rfl, (List.mem_of_getElem? (i := 151) rfl)⟩⟩
set_option maxRecDepth 20000 in
theorem e_HT_clear : jy_MI m_HT_clear := ⟨by decide, by decide, ⟨by decide, by decide⟩, (List.mem_of_getElem? (i := 29) rfl), Or.inl ⟨rfl, (List.mem_of_getElem? (i := 155) rfl)⟩⟩
set_option maxRecDepth 20000 in
theorem e_LW_sign : jy_MI m_LW_sign := ⟨by decide, by decide, ⟨by decide, by decide⟩, (List.mem_of_getElem? (i := 28) rfl), Or.inr (List.mem_of_getElem? (i := 158) rfl)⟩
set_option maxRecDepth 20000 in
theorem e_HT_sign : jy_MI m_HT_sign := ⟨by decide, by decide, ⟨by decide, by decide⟩, (List.mem_of_getElem? (i := 29) rfl), Or.inl ⟨rfl, (List.mem_of_getElem? (i := 164) rfl)⟩⟩
set_option maxRecDepth 20000 in
theorem e_HT_isIn : jy_MI m_HT_isIn := ⟨by decide, by decide, ⟨by decide, by decide⟩, (List.mem_of_getElem? (i := 29) rfl), Or.inl ⟨rfl, (List.mem_of_getElem? (i := 167) rfl)⟩⟩
set_option maxRecDepth 20000 in
theorem e_HT_within : jy_MI m_HT_within := ⟨by decide, by decide, ⟨by decide, by decide⟩, (List.mem_of_getElem? (i := 29) rfl), Or.inl ⟨rfl, (List.mem_of_getElem? (i := 170) rfl)⟩⟩
set_option maxRecDepth 20000 in
theorem e_HT_room : jy_MI m_HT_room := ⟨by decide, by decide, ⟨by decide, by decide⟩, (List.mem_of_getElem? (i := 29) rfl), Or.inl ⟨rfl, (List.mem_of_getElem? (i := 239) rfl)⟩⟩
set_option maxRecDepth 20000 in
theorem e_LW_read : jy_MI m_LW_read := ⟨by decide, by decide, ⟨by decide, by decide⟩, (List.mem_of_getElem? (i := 28) rfl), Or.inr (List.mem_of_getElem? (i := 257) rfl)⟩
set_option maxRecDepth 20000 in
theorem e_HT_read : jy_MI m_HT_read := ⟨by decide, by decide, ⟨by decide, by decide⟩, (List.mem_of_getElem? (i := 29) rfl), Or.inr (List.mem_of_getElem? (i := 262) rfl)⟩
set_option maxRecDepth 20000 in
theorem e_RD_read : jy_MI m_RD_read := ⟨by decide, by decide, ⟨by decide, by decide⟩, (List.mem_of_getElem? (i := 30) rfl), Or.inl ⟨rfl, (List.mem_of_getElem? (i := 267) rfl)⟩⟩
set_option maxRecDepth 20000 in
theorem e_RD_see : jy_MI m_RD_see := ⟨by decide, by decide, ⟨by decide, by decide⟩, (List.mem_of_getElem? (i := 30) rfl), Or.inl ⟨rfl, (List.mem_of_getElem? (i := 273) rfl)⟩⟩
set_option maxRecDepth 20000 in
theorem e_RD_need : jy_MI m_RD_need := ⟨by decide, by decide, ⟨by decide, by decide⟩, (List.mem_of_getElem? (i := 30) rfl), Or.inl ⟨rfl, (List.mem_of_getElem? (i := 277) rfl)⟩⟩
set_option maxRecDepth 20000 in
theorem e_WR_init : jy_MI m_WR_init := ⟨by decide, by decide, ⟨by decide, by decide⟩, (List.mem_of_getElem? (i := 38) rfl), Or.inl ⟨rfl, (List.mem_of_getElem? (i := 289) rfl)⟩⟩
set_option maxRecDepth 20000 in
theorem e_RD_material : jy_MI m_RD_material := ⟨by decide, by decide, ⟨by decide, by decide⟩, (List.mem_of_getElem? (i := 30) rfl), Or.inl ⟨rfl, (List.mem_of_getElem? (i := 309) rfl)⟩⟩
set_option maxRecDepth 20000 in
theorem e_RD_number : jy_MI m_RD_number := ⟨by decide, by decide, ⟨by decide, by decide⟩, (List.mem_of_getElem? (i := 30) rfl), Or.inl ⟨rfl, (List.mem_of_getElem? (i := 313) rfl)⟩⟩
set_option maxRecDepth 20000 in
theorem e_RD_isDigit : jy_MI m_RD_isDigit := ⟨by decide, by decide, ⟨by decide, by decide⟩, (List.mem_of_getElem? (i := 30) rfl), Or.inl ⟨rfl, (List.mem_of_getElem? (i := 317) rfl)⟩⟩
set_option maxRecDepth 20000 in
theorem e_TB_of : jy_MI m_TB_of := ⟨by decide, by decide, ⟨by decide, by decide⟩, (List.mem_of_getElem? (i := 31) rfl), Or.inl ⟨rfl, (List.mem_of_getElem? (i := 321) rfl)⟩⟩
set_option maxRecDepth 20000 in
theorem e_MA_init : jy_MI m_MA_init := ⟨by decide, by decide, ⟨by decide, by decide⟩, (List.mem_of_getElem? (i := 39) rfl), Or.inl ⟨rfl, (List.mem_of_getElem? (i := 326) rfl)⟩⟩
set_option maxRecDepth 20000 in
theorem e_RD_word : jy_MI m_RD_word := ⟨by decide, by decide, ⟨by decide, by decide⟩, (List.mem_of_getElem? (i := 30) rfl), Or.inl ⟨rfl, (List.mem_of_getElem? (i := 362) rfl)⟩⟩
set_option maxRecDepth 20000 in
theorem e_RD_sign : jy_MI m_RD_sign := ⟨by decide, by decide, ⟨by decide, by decide⟩, (List.mem_of_getElem? (i := 30) rfl), Or.inl ⟨rfl, (List.mem_of_getElem? (i := 366) rfl)⟩⟩
set_option maxRecDepth 20000 in
theorem e_RD_due : jy_MI m_RD_due := ⟨by decide, by decide, ⟨by decide, by decide⟩, (List.mem_of_getElem? (i := 30) rfl), Or.inl ⟨rfl, (List.mem_of_getElem? (i := 373) rfl)⟩⟩
set_option maxRecDepth 20000 in
theorem e_DU_init : jy_MI m_DU_init := ⟨by decide, by decide, ⟨by decide, by decide⟩, (List.mem_of_getElem? (i := 41) rfl), Or.inl ⟨rfl, (List.mem_of_getElem? (i := 378) rfl)⟩⟩
set_option maxRecDepth 20000 in
theorem e_RD_rising : jy_MI m_RD_rising := ⟨by decide, by decide, ⟨by decide, by decide⟩, (List.mem_of_getElem? (i := 30) rfl), Or.inl ⟨rfl, (List.mem_of_getElem? (i := 397) rfl)⟩⟩
set_option maxRecDepth 20000 in
theorem e_RD_distances : jy_MI m_RD_distances := ⟨by decide, by decide, ⟨by decide, by decide⟩, (List.mem_of_getElem? (i := 30) rfl), Or.inl ⟨rfl, (List.mem_of_getElem? (i := 401) rfl)⟩⟩
set_option maxRecDepth 20000 in
theorem e_RD_goesOn : jy_MI m_RD_goesOn := ⟨by decide, by decide, ⟨by decide, by decide⟩, (List.mem_of_getElem? (i := 30) rfl), Or.inl ⟨rfl, (List.mem_of_getElem? (i := 405) rfl)⟩⟩
set_option maxRecDepth 20000 in
theorem e_HT_must : jy_MI m_HT_must := ⟨by decide, by decide, ⟨by decide, by decide⟩, (List.mem_of_getElem? (i := 29) rfl), Or.inl ⟨rfl, (List.mem_of_getElem? (i := 408) rfl)⟩⟩
set_option maxRecDepth 20000 in
theorem e_LW_material : jy_MI m_LW_material := ⟨by decide, by decide, ⟨by decide, by decide⟩, (List.mem_of_getElem? (i := 28) rfl), Or.inr (List.mem_of_getElem? (i := 427) rfl)⟩
set_option maxRecDepth 20000 in
theorem e_HT_material : jy_MI m_HT_material := ⟨by decide, by decide, ⟨by decide, by decide⟩, (List.mem_of_getElem? (i := 29) rfl), Or.inl ⟨rfl, (List.mem_of_getElem? (i := 432) rfl)⟩⟩
set_option maxRecDepth 20000 in
theorem e_HT_known : jy_MI m_HT_known := ⟨by decide, by decide, ⟨by decide, by decide⟩, (List.mem_of_getElem? (i := 29) rfl), Or.inl ⟨rfl, (List.mem_of_getElem? (i := 435) rfl)⟩⟩
set_option maxRecDepth 20000 in
theorem e_LW_say : jy_MI m_LW_say := ⟨by decide, by decide, ⟨by decide, by decide⟩, (List.mem_of_getElem? (i := 28) rfl), Or.inr (List.mem_of_getElem? (i := 454) rfl)⟩
set_option maxRecDepth 20000 in
theorem e_HT_say : jy_MI m_HT_say := ⟨by decide, by decide, ⟨by decide, by decide⟩, (List.mem_of_getElem? (i := 29) rfl), Or.inl ⟨rfl, (List.mem_of_getElem? (i := 458) rfl)⟩⟩
set_option maxRecDepth 20000 in
theorem e_HT_near : jy_MI m_HT_near := ⟨by decide, by decide, ⟨by decide, by decide⟩, (List.mem_of_getElem? (i := 29) rfl), Or.inl ⟨rfl, (List.mem_of_getElem? (i := 463) rfl)⟩⟩
set_option maxRecDepth 20000 in
theorem e_HT_distM : jy_MI m_HT_distM := ⟨by decide, by decide, ⟨by decide, by decide⟩, (List.mem_of_getElem? (i := 29) rfl), Or.inl ⟨rfl, (List.mem_of_getElem? (i := 467) rfl)⟩⟩
set_option maxRecDepth 20000 in
theorem e_HT_distB : jy_MI m_HT_distB := ⟨by decide, by decide, ⟨by decide, by decide⟩, (List.mem_of_getElem? (i := 29) rfl), Or.inl ⟨rfl, (List.mem_of_getElem? (i := 471) rfl)⟩⟩
set_option maxRecDepth 20000 in
theorem e_LW_near : jy_MI m_LW_near := ⟨by decide, by decide, ⟨by decide, by decide⟩, (List.mem_of_getElem? (i := 28) rfl), Or.inr (List.mem_of_getElem? (i := 477) rfl)⟩
set_option maxRecDepth 20000 in
theorem e_LW_add : jy_MI m_LW_add := ⟨by decide, by decide, ⟨by decide, by decide⟩, (List.mem_of_getElem? (i := 28) rfl), Or.inr (List.mem_of_getElem? (i := 481) rfl)⟩
set_option maxRecDepth 20000 in
theorem e_HT_add : jy_MI m_HT_add := ⟨by decide, by decide, ⟨by decide, by decide⟩, (List.mem_of_getElem? (i := 29) rfl), Or.inl ⟨rfl, (List.mem_of_getElem? (i := 485) rfl)⟩⟩
set_option maxRecDepth 20000 in
theorem e_PT_init : jy_MI m_PT_init := ⟨by decide, by decide, ⟨by decide, by decide⟩, (List.mem_of_getElem? (i := 45) rfl), Or.inl ⟨rfl, (List.mem_of_getElem? (i := 490) rfl)⟩⟩
set_option maxRecDepth 20000 in
theorem e_PT_contradicts : jy_MI m_PT_contradicts := ⟨by decide, by decide, ⟨by decide, by decide⟩, (List.mem_of_getElem? (i := 45) rfl), Or.inl ⟨rfl, (List.mem_of_getElem? (i := 511) rfl)⟩⟩
set_option maxRecDepth 20000 in
theorem e_PT_bars : jy_MI m_PT_bars := ⟨by decide, by decide, ⟨by decide, by decide⟩, (List.mem_of_getElem? (i := 45) rfl), Or.inl ⟨rfl, (List.mem_of_getElem? (i := 515) rfl)⟩⟩
set_option maxRecDepth 20000 in
theorem e_PT_kind : jy_MI m_PT_kind := ⟨by decide, by decide, ⟨by decide, by decide⟩, (List.mem_of_getElem? (i := 45) rfl), Or.inl ⟨rfl, (List.mem_of_getElem? (i := 519) rfl)⟩⟩
set_option maxRecDepth 20000 in
theorem e_LW_mixture : jy_MI m_LW_mixture := ⟨by decide, by decide, ⟨by decide, by decide⟩, (List.mem_of_getElem? (i := 28) rfl), Or.inr (List.mem_of_getElem? (i := 522) rfl)⟩
set_option maxRecDepth 20000 in
theorem e_HT_mixture : jy_MI m_HT_mixture := ⟨by decide, by decide, ⟨by decide, by decide⟩, (List.mem_of_getElem? (i := 29) rfl), Or.inl ⟨rfl, (List.mem_of_getElem? (i := 526) rfl)⟩⟩
set_option maxRecDepth 20000 in
theorem e_HT_strictness : jy_MI m_HT_strictness := ⟨by decide, by decide, ⟨by decide, by decide⟩, (List.mem_of_getElem? (i := 29) rfl), Or.inl ⟨rfl, (List.mem_of_getElem? (i := 530) rfl)⟩⟩
set_option maxRecDepth 20000 in
theorem e_HT_farthest : jy_MI m_HT_farthest := ⟨by decide, by decide, ⟨by decide, by decide⟩, (List.mem_of_getElem? (i := 29) rfl), Or.inl ⟨rfl, (List.mem_of_getElem? (i := 537) rfl)⟩⟩
set_option maxRecDepth 20000 in
theorem e_DU_distance : jy_MI m_DU_distance := ⟨by decide, by decide, ⟨by decide, by decide⟩, (List.mem_of_getElem? (i := 41) rfl), Or.inl ⟨rfl, (List.mem_of_getElem? (i := 541) rfl)⟩⟩
set_option maxRecDepth 20000 in
theorem e_HT_pairs : jy_MI m_HT_pairs := ⟨by decide, by decide, ⟨by decide, by decide⟩, (List.mem_of_getElem? (i := 29) rfl), Or.inl ⟨rfl, (List.mem_of_getElem? (i := 545) rfl)⟩⟩
set_option maxRecDepth 20000 in
theorem e_LW_strict : jy_MI m_LW_strict := ⟨by decide, by decide, ⟨by decide, by decide⟩, (List.mem_of_getElem? (i := 28) rfl), Or.inr (List.mem_of_getElem? (i := 548) rfl)⟩
set_option maxRecDepth 20000 in
theorem e_HT_strict : jy_MI m_HT_strict := ⟨by decide, by decide, ⟨by decide, by decide⟩, (List.mem_of_getElem? (i := 29) rfl), Or.inl ⟨rfl, (List.mem_of_getElem? (i := 552) rfl)⟩⟩
set_option maxRecDepth 20000 in
theorem e_LW_building : jy_MI m_LW_building := ⟨by decide, by decide, ⟨by decide, by decide⟩, (List.mem_of_getElem? (i := 28) rfl), Or.inr (List.mem_of_getElem? (i := 555) rfl)⟩
set_option maxRecDepth 20000 in
theorem e_HT_building : jy_MI m_HT_building := ⟨by decide, by decide, ⟨by decide, by decide⟩, (List.mem_of_getElem? (i := 29) rfl), Or.inl ⟨rfl, (List.mem_of_getElem? (i := 559) rfl)⟩⟩
set_option maxRecDepth 20000 in
theorem e_HT_isPoint : jy_MI m_HT_isPoint := ⟨by decide, by decide, ⟨by decide, by decide⟩, (List.mem_of_getElem? (i := 29) rfl), Or.inl ⟨rfl, (List.mem_of_getElem? (i := 562) rfl)⟩⟩
set_option maxRecDepth 20000 in
theorem e_BU_init : jy_MI m_BU_init := ⟨by decide, by decide, ⟨by decide, by decide⟩, (List.mem_of_getElem? (i := 46) rfl), Or.inl ⟨rfl, (List.mem_of_getElem? (i := 566) rfl)⟩⟩
set_option maxRecDepth 20000 in
theorem e_LW_wind : jy_MI m_LW_wind := ⟨by decide, by decide, ⟨by decide, by decide⟩, (List.mem_of_getElem? (i := 28) rfl), Or.inr (List.mem_of_getElem? (i := 582) rfl)⟩
set_option maxRecDepth 20000 in
theorem e_HT_wind : jy_MI m_HT_wind := ⟨by decide, by decide, ⟨by decide, by decide⟩, (List.mem_of_getElem? (i := 29) rfl), Or.inl ⟨rfl, (List.mem_of_getElem? (i := 586) rfl)⟩⟩
set_option maxRecDepth 20000 in
theorem e_HT_isInPlume : jy_MI m_HT_isInPlume := ⟨by decide, by decide, ⟨by decide, by decide⟩, (List.mem_of_getElem? (i := 29) rfl), Or.inl ⟨rfl, (List.mem_of_getElem? (i := 590) rfl)⟩⟩
set_option maxRecDepth 20000 in
theorem e_LW_fresh : jy_MI m_LW_fresh := ⟨by decide, by decide, ⟨by decide, by decide⟩, (List.mem_of_getElem? (i := 28) rfl), Or.inr (List.mem_of_getElem? (i := 594) rfl)⟩
set_option maxRecDepth 20000 in
theorem e_HT_fresh : jy_MI m_HT_fresh := ⟨by decide, by decide, ⟨by decide, by decide⟩, (List.mem_of_getElem? (i := 29) rfl), Or.inl ⟨rfl, (List.mem_of_getElem? (i := 598) rfl)⟩⟩
set_option maxRecDepth 20000 in
theorem e_LW_in : jy_MI m_LW_in := ⟨by decide, by decide, ⟨by decide, by decide⟩, (List.mem_of_getElem? (i := 28) rfl), Or.inr (List.mem_of_getElem? (i := 601) rfl)⟩
set_option maxRecDepth 20000 in
theorem e_HT_in : jy_MI m_HT_in := ⟨by decide, by decide, ⟨by decide, by decide⟩, (List.mem_of_getElem? (i := 29) rfl), Or.inl ⟨rfl, (List.mem_of_getElem? (i := 605) rfl)⟩⟩
set_option maxRecDepth 20000 in
theorem e_LW_step : jy_MI m_LW_step := ⟨by decide, by decide, ⟨by decide, by decide⟩, (List.mem_of_getElem? (i := 28) rfl), Or.inr (List.mem_of_getElem? (i := 608) rfl)⟩
set_option maxRecDepth 20000 in
theorem e_HT_step : jy_MI m_HT_step := ⟨by decide, by decide, ⟨by decide, by decide⟩, (List.mem_of_getElem? (i := 29) rfl), Or.inl ⟨rfl, (List.mem_of_getElem? (i := 612) rfl)⟩⟩
set_option maxRecDepth 20000 in
theorem e_LW_mark : jy_MI m_LW_mark := ⟨by decide, by decide, ⟨by decide, by decide⟩, (List.mem_of_getElem? (i := 28) rfl), Or.inr (List.mem_of_getElem? (i := 615) rfl)⟩
set_option maxRecDepth 20000 in
theorem e_HT_mark : jy_MI m_HT_mark := ⟨by decide, by decide, ⟨by decide, by decide⟩, (List.mem_of_getElem? (i := 29) rfl), Or.inl ⟨rfl, (List.mem_of_getElem? (i := 619) rfl)⟩⟩
set_option maxRecDepth 20000 in
theorem e_LW_over : jy_MI m_LW_over := ⟨by decide, by decide, ⟨by decide, by decide⟩, (List.mem_of_getElem? (i := 28) rfl), Or.inr (List.mem_of_getElem? (i := 622) rfl)⟩
set_option maxRecDepth 20000 in
theorem e_HT_over : jy_MI m_HT_over := ⟨by decide, by decide, ⟨by decide, by decide⟩, (List.mem_of_getElem? (i := 29) rfl), Or.inl ⟨rfl, (List.mem_of_getElem? (i := 626) rfl)⟩⟩
set_option maxRecDepth 20000 in
theorem e_MO_init : jy_MI m_MO_init := ⟨by decide, by decide, ⟨by decide, by decide⟩, (List.mem_of_getElem? (i := 32) rfl), Or.inl ⟨rfl, (List.mem_of_getElem? (i := 631) rfl)⟩⟩
set_option maxRecDepth 20000 in
theorem e_MO_thrown : jy_MI m_MO_thrown := ⟨by decide, by decide, ⟨by decide, by decide⟩, (List.mem_of_getElem? (i := 32) rfl), Or.inl ⟨rfl, (List.mem_of_getElem? (i := 728) rfl)⟩⟩
set_option maxRecDepth 20000 in
theorem e_MO_sign : jy_MI m_MO_sign := ⟨by decide, by decide, ⟨by decide, by decide⟩, (List.mem_of_getElem? (i := 32) rfl), Or.inl ⟨rfl, (List.mem_of_getElem? (i := 732) rfl)⟩⟩
set_option maxRecDepth 20000 in
theorem e_MO_within : jy_MI m_MO_within := ⟨by decide, by decide, ⟨by decide, by decide⟩, (List.mem_of_getElem? (i := 32) rfl), Or.inl ⟨rfl, (List.mem_of_getElem? (i := 735) rfl)⟩⟩
set_option maxRecDepth 20000 in
theorem e_MO_goes : jy_MI m_MO_goes := ⟨by decide, by decide, ⟨by decide, by decide⟩, (List.mem_of_getElem? (i := 32) rfl), Or.inl ⟨rfl, (List.mem_of_getElem? (i := 739) rfl)⟩⟩
set_option maxRecDepth 20000 in
theorem e_MO_read : jy_MI m_MO_read := ⟨by decide, by decide, ⟨by decide, by decide⟩, (List.mem_of_getElem? (i := 32) rfl), Or.inl ⟨rfl, (List.mem_of_getElem? (i := 743) rfl)⟩⟩
set_option maxRecDepth 20000 in
theorem e_MO_see : jy_MI m_MO_see := ⟨by decide, by decide, ⟨by decide, by decide⟩, (List.mem_of_getElem? (i := 32) rfl), Or.inl ⟨rfl, (List.mem_of_getElem? (i := 747) rfl)⟩⟩
set_option maxRecDepth 20000 in
theorem e_MO_here : jy_MI m_MO_here := ⟨by decide, by decide, ⟨by decide, by decide⟩, (List.mem_of_getElem? (i := 32) rfl), Or.inl ⟨rfl, (List.mem_of_getElem? (i := 751) rfl)⟩⟩
set_option maxRecDepth 20000 in
theorem e_MO_materialRow : jy_MI m_MO_materialRow := ⟨by decide, by decide, ⟨by decide, by decide⟩, (List.mem_of_getElem? (i := 32) rfl), Or.inl ⟨rfl, (List.mem_of_getElem? (i := 755) rfl)⟩⟩
set_option maxRecDepth 20000 in
theorem e_MO_fail : jy_MI m_MO_fail := ⟨by decide, by decide, ⟨by decide, by decide⟩, (List.mem_of_getElem? (i := 32) rfl), Or.inl ⟨rfl, (List.mem_of_getElem? (i := 759) rfl)⟩⟩
set_option maxRecDepth 20000 in
theorem e_MO_number : jy_MI m_MO_number := ⟨by decide, by decide, ⟨by decide, by decide⟩, (List.mem_of_getElem? (i := 32) rfl), Or.inl ⟨rfl, (List.mem_of_getElem? (i := 763) rfl)⟩⟩
set_option maxRecDepth 20000 in
theorem e_MO_isDigit : jy_MI m_MO_isDigit := ⟨by decide, by decide, ⟨by decide, by decide⟩, (List.mem_of_getElem? (i := 32) rfl), Or.inl ⟨rfl, (List.mem_of_getElem? (i := 767) rfl)⟩⟩
set_option maxRecDepth 20000 in
theorem e_MO_name : jy_MI m_MO_name := ⟨by decide, by decide, ⟨by decide, by decide⟩, (List.mem_of_getElem? (i := 32) rfl), Or.inl ⟨rfl, (List.mem_of_getElem? (i := 771) rfl)⟩⟩
set_option maxRecDepth 20000 in
theorem e_MO_take : jy_MI m_MO_take := ⟨by decide, by decide, ⟨by decide, by decide⟩, (List.mem_of_getElem? (i := 32) rfl), Or.inl ⟨rfl, (List.mem_of_getElem? (i := 775) rfl)⟩⟩
set_option maxRecDepth 20000 in
theorem e_MO_due : jy_MI m_MO_due := ⟨by decide, by decide, ⟨by decide, by decide⟩, (List.mem_of_getElem? (i := 32) rfl), Or.inl ⟨rfl, (List.mem_of_getElem? (i := 779) rfl)⟩⟩
set_option maxRecDepth 20000 in
theorem e_MO_rising : jy_MI m_MO_rising := ⟨by decide, by decide, ⟨by decide, by decide⟩, (List.mem_of_getElem? (i := 32) rfl), Or.inl ⟨rfl, (List.mem_of_getElem? (i := 783) rfl)⟩⟩
set_option maxRecDepth 20000 in
theorem e_MO_generalRow : jy_MI m_MO_generalRow := ⟨by decide, by decide, ⟨by decide, by decide⟩, (List.mem_of_getElem? (i := 32) rfl), Or.inl ⟨rfl, (List.mem_of_getElem? (i := 787) rfl)⟩⟩
set_option maxRecDepth 20000 in
theorem e_MO_clear : jy_MI m_MO_clear := ⟨by decide, by decide, ⟨by decide, by decide⟩, (List.mem_of_getElem? (i := 32) rfl), Or.inl ⟨rfl, (List.mem_of_getElem? (i := 791) rfl)⟩⟩
set_option maxRecDepth 20000 in
theorem e_MO_place : jy_MI m_MO_place := ⟨by decide, by decide, ⟨by decide, by decide⟩, (List.mem_of_getElem? (i := 32) rfl), Or.inl ⟨rfl, (List.mem_of_getElem? (i := 795) rfl)⟩⟩
set_option maxRecDepth 20000 in
theorem e_MO_material : jy_MI m_MO_material := ⟨by decide, by decide, ⟨by decide, by decide⟩, (List.mem_of_getElem? (i := 32) rfl), Or.inl ⟨rfl, (List.mem_of_getElem? (i := 799) rfl)⟩⟩
set_option maxRecDepth 20000 in
theorem e_MO_find : jy_MI m_MO_find := ⟨by decide, by decide, ⟨by decide, by decide⟩, (List.mem_of_getElem? (i := 32) rfl), Or.inl ⟨rfl, (List.mem_of_getElem? (i := 803) rfl)⟩⟩
set_option maxRecDepth 20000 in
theorem e_MO_say : jy_MI m_MO_say := ⟨by decide, by decide, ⟨by decide, by decide⟩, (List.mem_of_getElem? (i := 32) rfl), Or.inl ⟨rfl, (List.mem_of_getElem? (i := 807) rfl)⟩⟩
set_option maxRecDepth 20000 in
theorem e_MO_following : jy_MI m_MO_following := ⟨by decide, by decide, ⟨by decide, by decide⟩, (List.mem_of_getElem? (i := 32) rfl), Or.inl ⟨rfl, (List.mem_of_getElem? (i := 811) rfl)⟩⟩
set_option maxRecDepth 20000 in
theorem e_MO_nearest : jy_MI m_MO_nearest := ⟨by decide, by decide, ⟨by decide, by decide⟩, (List.mem_of_getElem? (i := 32) rfl), Or.inl ⟨rfl, (List.mem_of_getElem? (i := 815) rfl)⟩⟩
set_option maxRecDepth 20000 in
theorem e_MO_apart : jy_MI m_MO_apart := ⟨by decide, by decide, ⟨by decide, by decide⟩, (List.mem_of_getElem? (i := 32) rfl), Or.inl ⟨rfl, (List.mem_of_getElem? (i := 819) rfl)⟩⟩
set_option maxRecDepth 20000 in
theorem e_MO_least : jy_MI m_MO_least := ⟨by decide, by decide, ⟨by decide, by decide⟩, (List.mem_of_getElem? (i := 32) rfl), Or.inl ⟨rfl, (List.mem_of_getElem? (i := 822) rfl)⟩⟩
set_option maxRecDepth 20000 in
theorem e_MO_near : jy_MI m_MO_near := ⟨by decide, by decide, ⟨by decide, by decide⟩, (List.mem_of_getElem? (i := 32) rfl), Or.inl ⟨rfl, (List.mem_of_getElem? (i := 826) rfl)⟩⟩
set_option maxRecDepth 20000 in
theorem e_MO_add : jy_MI m_MO_add := ⟨by decide, by decide, ⟨by decide, by decide⟩, (List.mem_of_getElem? (i := 32) rfl), Or.inl ⟨rfl, (List.mem_of_getElem? (i := 830) rfl)⟩⟩
set_option maxRecDepth 20000 in
theorem e_MO_contradict : jy_MI m_MO_contradict := ⟨by decide, by decide, ⟨by decide, by decide⟩, (List.mem_of_getElem? (i := 32) rfl), Or.inl ⟨rfl, (List.mem_of_getElem? (i := 835) rfl)⟩⟩
set_option maxRecDepth 20000 in
theorem e_MO_mixture : jy_MI m_MO_mixture := ⟨by decide, by decide, ⟨by decide, by decide⟩, (List.mem_of_getElem? (i := 32) rfl), Or.inl ⟨rfl, (List.mem_of_getElem? (i := 840) rfl)⟩⟩
set_option maxRecDepth 20000 in
theorem e_MO_strictness : jy_MI m_MO_strictness := ⟨by decide, by decide, ⟨by decide, by decide⟩, (List.mem_of_getElem? (i := 32) rfl), Or.inl ⟨rfl, (List.mem_of_getElem? (i := 844) rfl)⟩⟩
set_option maxRecDepth 20000 in
theorem e_MO_distance : jy_MI m_MO_distance := ⟨by decide, by decide, ⟨by decide, by decide⟩, (List.mem_of_getElem? (i := 32) rfl), Or.inl ⟨rfl, (List.mem_of_getElem? (i := 848) rfl)⟩⟩
set_option maxRecDepth 20000 in
theorem e_MO_strict : jy_MI m_MO_strict := ⟨by decide, by decide, ⟨by decide, by decide⟩, (List.mem_of_getElem? (i := 32) rfl), Or.inl ⟨rfl, (List.mem_of_getElem? (i := 852) rfl)⟩⟩
set_option maxRecDepth 20000 in
theorem e_MO_building : jy_MI m_MO_building := ⟨by decide, by decide, ⟨by decide, by decide⟩, (List.mem_of_getElem? (i := 32) rfl), Or.inl ⟨rfl, (List.mem_of_getElem? (i := 856) rfl)⟩⟩
set_option maxRecDepth 20000 in
theorem e_MO_isPoint : jy_MI m_MO_isPoint := ⟨by decide, by decide, ⟨by decide, by decide⟩, (List.mem_of_getElem? (i := 32) rfl), Or.inl ⟨rfl, (List.mem_of_getElem? (i := 859) rfl)⟩⟩
set_option maxRecDepth 20000 in
theorem e_MO_wind : jy_MI m_MO_wind := ⟨by decide, by decide, ⟨by decide, by decide⟩, (List.mem_of_getElem? (i := 32) rfl), Or.inl ⟨rfl, (List.mem_of_getElem? (i := 863) rfl)⟩⟩
set_option maxRecDepth 20000 in
theorem e_MO_isIn : jy_MI m_MO_isIn := ⟨by decide, by decide, ⟨by decide, by decide⟩, (List.mem_of_getElem? (i := 32) rfl), Or.inl ⟨rfl, (List.mem_of_getElem? (i := 867) rfl)⟩⟩
set_option maxRecDepth 20000 in
theorem e_MO_fresh : jy_MI m_MO_fresh := ⟨by decide, by decide, ⟨by decide, by decide⟩, (List.mem_of_getElem? (i := 32) rfl), Or.inl ⟨rfl, (List.mem_of_getElem? (i := 872) rfl)⟩⟩
set_option maxRecDepth 20000 in
theorem e_MO_in : jy_MI m_MO_in := ⟨by decide, by decide, ⟨by decide, by decide⟩, (List.mem_of_getElem? (i := 32) rfl), Or.inl ⟨rfl, (List.mem_of_getElem? (i := 876) rfl)⟩⟩
set_option maxRecDepth 20000 in
theorem e_MO_step : jy_MI m_MO_step := ⟨by decide, by decide, ⟨by decide, by decide⟩, (List.mem_of_getElem? (i := 32) rfl), Or.inl ⟨rfl, (List.mem_of_getElem? (i := 880) rfl)⟩⟩
set_option maxRecDepth 20000 in
theorem e_MO_mark : jy_MI m_MO_mark := ⟨by decide, by decide, ⟨by decide, by decide⟩, (List.mem_of_getElem? (i := 32) rfl), Or.inl ⟨rfl, (List.mem_of_getElem? (i := 884) rfl)⟩⟩
set_option maxRecDepth 20000 in
theorem e_MO_over : jy_MI m_MO_over := ⟨by decide, by decide, ⟨by decide, by decide⟩, (List.mem_of_getElem? (i := 32) rfl), Or.inl ⟨rfl, (List.mem_of_getElem? (i := 888) rfl)⟩⟩
set_option maxRecDepth 20000 in
theorem o_HT_1 : Cond.methodLink "HazardTables" 1 Lib.objectInit ∈ lw_tbl := (List.mem_of_getElem? (i := 52) rfl)
set_option maxRecDepth 20000 in
theorem i_HT_9 : jy_II "HazardTables" 9 m_RD_init 0 := ⟨e_RD_init, Or.inr ⟨"HazardTables", (List.mem_of_getElem? (i := 57) rfl)⟩, (List.mem_of_getElem? (i := 58) rfl), rfl, rfl, rfl, (List.mem_of_getElem? (i := 59) rfl), by decide +kernel⟩
set_option maxRecDepth 20000 in
theorem i_HT_18 : jy_II "HazardTables" 18 m_TB_init 0 := ⟨e_TB_init, Or.inr ⟨"HazardTables", (List.mem_of_getElem? (i := 76) rfl)⟩, (List.mem_of_getElem? (i := 77) rfl), rfl, rfl, rfl, (List.mem_of_getElem? (i := 78) rfl), by decide +kernel⟩
set_option maxRecDepth 20000 in
theorem i_HT_72 : jy_IS "HazardTables" 72 m_HT_isIn 3 := ⟨e_HT_isIn, Or.inl (List.mem_of_getElem? (i := 165) rfl), (List.mem_of_getElem? (i := 166) rfl), by decide +kernel⟩
set_option maxRecDepth 20000 in
theorem i_HT_76 : jy_IS "HazardTables" 76 m_HT_within 1 := ⟨e_HT_within, Or.inl (List.mem_of_getElem? (i := 168) rfl), (List.mem_of_getElem? (i := 169) rfl), by decide +kernel⟩
set_option maxRecDepth 20000 in
theorem i_HT_83 : jy_IS "HazardTables" 83 m_HT_room 1 := ⟨e_HT_room, Or.inl (List.mem_of_getElem? (i := 237) rfl), (List.mem_of_getElem? (i := 238) rfl), by decide +kernel⟩
set_option maxRecDepth 20000 in
theorem i_HT_89 : jy_IV "HazardTables" 89 m_RD_read 1 0 := ⟨e_RD_read, Or.inl (List.mem_of_getElem? (i := 264) rfl), (List.mem_of_getElem? (i := 265) rfl), (List.mem_of_getElem? (i := 266) rfl), rfl, by decide, by decide +kernel⟩
set_option maxRecDepth 20000 in
theorem i_HT_96 : jy_IS "HazardTables" 96 m_HT_must 1 := ⟨e_HT_must, Or.inl (List.mem_of_getElem? (i := 406) rfl), (List.mem_of_getElem? (i := 407) rfl), by decide +kernel⟩
set_option maxRecDepth 20000 in
theorem i_HT_102 : jy_IV "HazardTables" 102 m_HT_clear 0 0 := ⟨e_HT_clear, Or.inl (List.mem_of_getElem? (i := 424) rfl), (List.mem_of_getElem? (i := 153) rfl), (List.mem_of_getElem? (i := 154) rfl), rfl, by decide, by decide +kernel⟩
set_option maxRecDepth 20000 in
theorem i_HT_108 : jy_IS "HazardTables" 108 m_HT_known 1 := ⟨e_HT_known, Or.inl (List.mem_of_getElem? (i := 433) rfl), (List.mem_of_getElem? (i := 434) rfl), by decide +kernel⟩
set_option maxRecDepth 20000 in
theorem i_HT_111 : jy_IV "HazardTables" 111 m_TB_of 2 1 := ⟨e_TB_of, Or.inl (List.mem_of_getElem? (i := 451) rfl), (List.mem_of_getElem? (i := 319) rfl), (List.mem_of_getElem? (i := 320) rfl), rfl, by decide, by decide +kernel⟩
set_option maxRecDepth 20000 in
theorem o_HT_142 : Cond.methodLink "HazardTables" 142 ⟨"java/lang/Math", "min", "(II)I"⟩ ∈ lw_tbl := (List.mem_of_getElem? (i := 472) rfl)
set_option maxRecDepth 20000 in
theorem i_HT_152 : jy_IV "HazardTables" 152 m_HT_distB 0 1 := ⟨e_HT_distB, Or.inl (List.mem_of_getElem? (i := 468) rfl), (List.mem_of_getElem? (i := 470) rfl), (List.mem_of_getElem? (i := 3) rfl), rfl, by decide, by decide +kernel⟩
set_option maxRecDepth 20000 in
theorem i_HT_158 : jy_IV "HazardTables" 158 m_HT_near 0 1 := ⟨e_HT_near, Or.inl (List.mem_of_getElem? (i := 460) rfl), (List.mem_of_getElem? (i := 461) rfl), (List.mem_of_getElem? (i := 462) rfl), rfl, by decide, by decide +kernel⟩
set_option maxRecDepth 20000 in
theorem i_HT_166 : jy_IV "HazardTables" 166 m_HT_distM 0 1 := ⟨e_HT_distM, Or.inl (List.mem_of_getElem? (i := 464) rfl), (List.mem_of_getElem? (i := 466) rfl), (List.mem_of_getElem? (i := 2) rfl), rfl, by decide, by decide +kernel⟩
set_option maxRecDepth 20000 in
theorem i_HT_176 : jy_II "HazardTables" 176 m_PT_init 4 := ⟨e_PT_init, Or.inl (List.mem_of_getElem? (i := 488) rfl), (List.mem_of_getElem? (i := 489) rfl), rfl, rfl, rfl, (List.mem_of_getElem? (i := 490) rfl), by decide +kernel⟩
set_option maxRecDepth 20000 in
theorem i_HT_179 : jy_IV "HazardTables" 179 m_PT_contradicts 5 1 := ⟨e_PT_contradicts, Or.inl (List.mem_of_getElem? (i := 508) rfl), (List.mem_of_getElem? (i := 509) rfl), (List.mem_of_getElem? (i := 510) rfl), rfl, by decide, by decide +kernel⟩
set_option maxRecDepth 20000 in
theorem o_HT_184 : Cond.methodLink "HazardTables" 184 ⟨"java/lang/Math", "max", "(II)I"⟩ ∈ lw_tbl := (List.mem_of_getElem? (i := 531) rfl)
set_option maxRecDepth 20000 in
theorem i_HT_190 : jy_IV "HazardTables" 190 m_DU_distance 4 2 := ⟨e_DU_distance, Or.inl (List.mem_of_getElem? (i := 538) rfl), (List.mem_of_getElem? (i := 539) rfl), (List.mem_of_getElem? (i := 540) rfl), rfl, by decide, by decide +kernel⟩
set_option maxRecDepth 20000 in
theorem i_HT_193 : jy_IV "HazardTables" 193 m_HT_strictness 0 0 := ⟨e_HT_strictness, Or.inl (List.mem_of_getElem? (i := 527) rfl), (List.mem_of_getElem? (i := 529) rfl), (List.mem_of_getElem? (i := 4) rfl), rfl, by decide, by decide +kernel⟩
set_option maxRecDepth 20000 in
theorem i_HT_196 : jy_IV "HazardTables" 196 m_HT_farthest 0 1 := ⟨e_HT_farthest, Or.inl (List.mem_of_getElem? (i := 534) rfl), (List.mem_of_getElem? (i := 536) rfl), (List.mem_of_getElem? (i := 5) rfl), rfl, by decide, by decide +kernel⟩
set_option maxRecDepth 20000 in
theorem i_HT_200 : jy_IV "HazardTables" 200 m_HT_pairs 0 0 := ⟨e_HT_pairs, Or.inl (List.mem_of_getElem? (i := 542) rfl), (List.mem_of_getElem? (i := 544) rfl), (List.mem_of_getElem? (i := 6) rfl), rfl, by decide, by decide +kernel⟩
set_option maxRecDepth 20000 in
theorem i_HT_204 : jy_IS "HazardTables" 204 m_HT_isPoint 2 := ⟨e_HT_isPoint, Or.inl (List.mem_of_getElem? (i := 560) rfl), (List.mem_of_getElem? (i := 561) rfl), by decide +kernel⟩
set_option maxRecDepth 20000 in
theorem i_HT_211 : jy_II "HazardTables" 211 m_BU_init 2 := ⟨e_BU_init, Or.inl (List.mem_of_getElem? (i := 564) rfl), (List.mem_of_getElem? (i := 565) rfl), rfl, rfl, rfl, (List.mem_of_getElem? (i := 566) rfl), by decide +kernel⟩
set_option maxRecDepth 20000 in
theorem i_HT_225 : jy_IV "HazardTables" 225 m_HT_isInPlume 0 2 := ⟨e_HT_isInPlume, Or.inl (List.mem_of_getElem? (i := 587) rfl), (List.mem_of_getElem? (i := 589) rfl), (List.mem_of_getElem? (i := 7) rfl), rfl, by decide, by decide +kernel⟩
set_option maxRecDepth 20000 in
theorem o_BU_1 : Cond.methodLink "HazardTables$Building" 1 Lib.objectInit ∈ lw_tbl := (List.mem_of_getElem? (i := 567) rfl)
set_option maxRecDepth 20000 in
theorem o_DU_1 : Cond.methodLink "HazardTables$Due" 1 Lib.objectInit ∈ lw_tbl := (List.mem_of_getElem? (i := 379) rfl)
set_option maxRecDepth 20000 in
theorem o_MA_3 : Cond.methodLink "HazardTables$Material" 3 Lib.objectInit ∈ lw_tbl := (List.mem_of_getElem? (i := 327) rfl)
set_option maxRecDepth 20000 in
theorem o_PT_3 : Cond.methodLink "HazardTables$Part" 3 Lib.objectInit ∈ lw_tbl := (List.mem_of_getElem? (i := 491) rfl)
set_option maxRecDepth 20000 in
theorem i_PT_35 : jy_IV "HazardTables$Part" 35 m_PT_kind 5 0 := ⟨e_PT_kind, Or.inl (List.mem_of_getElem? (i := 516) rfl), (List.mem_of_getElem? (i := 517) rfl), (List.mem_of_getElem? (i := 518) rfl), rfl, by decide, by decide +kernel⟩
set_option maxRecDepth 20000 in
theorem i_PT_38 : jy_IV "HazardTables$Part" 38 m_PT_bars 5 1 := ⟨e_PT_bars, Or.inl (List.mem_of_getElem? (i := 512) rfl), (List.mem_of_getElem? (i := 513) rfl), (List.mem_of_getElem? (i := 514) rfl), rfl, by decide, by decide +kernel⟩
set_option maxRecDepth 20000 in
theorem o_RD_3 : Cond.methodLink "HazardTables$Reader" 3 Lib.objectInit ∈ lw_tbl := (List.mem_of_getElem? (i := 60) rfl)
set_option maxRecDepth 20000 in
theorem i_RD_24 : jy_II "HazardTables$Reader" 24 m_WR_init 1 := ⟨e_WR_init, Or.inl (List.mem_of_getElem? (i := 287) rfl), (List.mem_of_getElem? (i := 288) rfl), rfl, rfl, rfl, (List.mem_of_getElem? (i := 289) rfl), by decide +kernel⟩
set_option maxRecDepth 20000 in
theorem i_RD_27 : jy_IV "HazardTables$Reader" 27 m_RD_see 1 0 := ⟨e_RD_see, Or.inl (List.mem_of_getElem? (i := 270) rfl), (List.mem_of_getElem? (i := 271) rfl), (List.mem_of_getElem? (i := 272) rfl), rfl, by decide, by decide +kernel⟩
set_option maxRecDepth 20000 in
theorem i_RD_31 : jy_IV "HazardTables$Reader" 31 m_RD_need 1 1 := ⟨e_RD_need, Or.inl (List.mem_of_getElem? (i := 274) rfl), (List.mem_of_getElem? (i := 275) rfl), (List.mem_of_getElem? (i := 276) rfl), rfl, by decide, by decide +kernel⟩
set_option maxRecDepth 20000 in
theorem i_RD_35 : jy_IV "HazardTables$Reader" 35 m_RD_isDigit 1 0 := ⟨e_RD_isDigit, Or.inl (List.mem_of_getElem? (i := 314) rfl), (List.mem_of_getElem? (i := 316) rfl), (List.mem_of_getElem? (i := 1) rfl), rfl, by decide, by decide +kernel⟩
set_option maxRecDepth 20000 in
theorem i_RD_39 : jy_IV "HazardTables$Reader" 39 m_RD_sign 1 1 := ⟨e_RD_sign, Or.inl (List.mem_of_getElem? (i := 363) rfl), (List.mem_of_getElem? (i := 364) rfl), (List.mem_of_getElem? (i := 365) rfl), rfl, by decide, by decide +kernel⟩
set_option maxRecDepth 20000 in
theorem o_RD_42 : Cond.methodLink "HazardTables$Reader" 42 arraycopyName ∈ lw_tbl := (List.mem_of_getElem? (i := 367) rfl)
set_option maxRecDepth 20000 in
theorem i_RD_50 : jy_II "HazardTables$Reader" 50 m_DU_init 0 := ⟨e_DU_init, Or.inr ⟨"HazardTables", (List.mem_of_getElem? (i := 376) rfl)⟩, (List.mem_of_getElem? (i := 377) rfl), rfl, rfl, rfl, (List.mem_of_getElem? (i := 378) rfl), by decide +kernel⟩
set_option maxRecDepth 20000 in
theorem i_RD_51 : jy_IV "HazardTables$Reader" 51 m_RD_number 1 2 := ⟨e_RD_number, Or.inl (List.mem_of_getElem? (i := 310) rfl), (List.mem_of_getElem? (i := 311) rfl), (List.mem_of_getElem? (i := 312) rfl), rfl, by decide, by decide +kernel⟩
set_option maxRecDepth 20000 in
theorem i_RD_58 : jy_IV "HazardTables$Reader" 58 m_RD_rising 1 3 := ⟨e_RD_rising, Or.inl (List.mem_of_getElem? (i := 394) rfl), (List.mem_of_getElem? (i := 395) rfl), (List.mem_of_getElem? (i := 396) rfl), rfl, by decide, by decide +kernel⟩
set_option maxRecDepth 20000 in
theorem i_RD_69 : jy_IV "HazardTables$Reader" 69 m_TB_of 2 1 := ⟨e_TB_of, Or.inl (List.mem_of_getElem? (i := 318) rfl), (List.mem_of_getElem? (i := 319) rfl), (List.mem_of_getElem? (i := 320) rfl), rfl, by decide, by decide +kernel⟩
set_option maxRecDepth 20000 in
theorem i_RD_77 : jy_II "HazardTables$Reader" 77 m_MA_init 1 := ⟨e_MA_init, Or.inl (List.mem_of_getElem? (i := 324) rfl), (List.mem_of_getElem? (i := 325) rfl), rfl, rfl, rfl, (List.mem_of_getElem? (i := 326) rfl), by decide +kernel⟩
set_option maxRecDepth 20000 in
theorem i_RD_85 : jy_IV "HazardTables$Reader" 85 m_RD_word 1 0 := ⟨e_RD_word, Or.inl (List.mem_of_getElem? (i := 359) rfl), (List.mem_of_getElem? (i := 360) rfl), (List.mem_of_getElem? (i := 361) rfl), rfl, by decide, by decide +kernel⟩
set_option maxRecDepth 20000 in
theorem i_RD_92 : jy_IV "HazardTables$Reader" 92 m_RD_due 1 0 := ⟨e_RD_due, Or.inl (List.mem_of_getElem? (i := 370) rfl), (List.mem_of_getElem? (i := 371) rfl), (List.mem_of_getElem? (i := 372) rfl), rfl, by decide, by decide +kernel⟩
set_option maxRecDepth 20000 in
theorem i_RD_99 : jy_IV "HazardTables$Reader" 99 m_RD_distances 1 1 := ⟨e_RD_distances, Or.inl (List.mem_of_getElem? (i := 398) rfl), (List.mem_of_getElem? (i := 399) rfl), (List.mem_of_getElem? (i := 400) rfl), rfl, by decide, by decide +kernel⟩
set_option maxRecDepth 20000 in
theorem i_RD_102 : jy_IV "HazardTables$Reader" 102 m_RD_goesOn 1 1 := ⟨e_RD_goesOn, Or.inl (List.mem_of_getElem? (i := 402) rfl), (List.mem_of_getElem? (i := 403) rfl), (List.mem_of_getElem? (i := 404) rfl), rfl, by decide, by decide +kernel⟩
set_option maxRecDepth 20000 in
theorem i_RD_114 : jy_II "HazardTables$Reader" 114 m_TB_init 0 := ⟨e_TB_init, Or.inr ⟨"HazardTables", (List.mem_of_getElem? (i := 269) rfl)⟩, (List.mem_of_getElem? (i := 77) rfl), rfl, rfl, rfl, (List.mem_of_getElem? (i := 78) rfl), by decide +kernel⟩
set_option maxRecDepth 20000 in
theorem i_RD_118 : jy_IV "HazardTables$Reader" 118 m_RD_material 1 1 := ⟨e_RD_material, Or.inl (List.mem_of_getElem? (i := 306) rfl), (List.mem_of_getElem? (i := 307) rfl), (List.mem_of_getElem? (i := 308) rfl), rfl, by decide, by decide +kernel⟩
set_option maxRecDepth 20000 in
theorem o_TB_3 : Cond.methodLink "HazardTables$Table" 3 Lib.objectInit ∈ lw_tbl := (List.mem_of_getElem? (i := 79) rfl)
set_option maxRecDepth 20000 in
theorem i_LW_7 : jy_IV "HazardTablesLaw" 7 m_HT_sign 0 2 := ⟨e_HT_sign, Or.inl (List.mem_of_getElem? (i := 161) rfl), (List.mem_of_getElem? (i := 162) rfl), (List.mem_of_getElem? (i := 163) rfl), rfl, by decide, by decide +kernel⟩
set_option maxRecDepth 20000 in
theorem i_LW_17 : jy_IV "HazardTablesLaw" 17 m_HT_read 0 0 := ⟨e_HT_read, Or.inl (List.mem_of_getElem? (i := 259) rfl), (List.mem_of_getElem? (i := 260) rfl), (List.mem_of_getElem? (i := 261) rfl), rfl, by decide, by decide +kernel⟩
set_option maxRecDepth 20000 in
theorem i_LW_23 : jy_IV "HazardTablesLaw" 23 m_HT_material 0 2 := ⟨e_HT_material, Or.inl (List.mem_of_getElem? (i := 429) rfl), (List.mem_of_getElem? (i := 430) rfl), (List.mem_of_getElem? (i := 431) rfl), rfl, by decide, by decide +kernel⟩
set_option maxRecDepth 20000 in
theorem i_LW_29 : jy_IV "HazardTablesLaw" 29 m_HT_say 0 2 := ⟨e_HT_say, Or.inl (List.mem_of_getElem? (i := 455) rfl), (List.mem_of_getElem? (i := 456) rfl), (List.mem_of_getElem? (i := 457) rfl), rfl, by decide, by decide +kernel⟩
set_option maxRecDepth 20000 in
theorem i_LW_32 : jy_IV "HazardTablesLaw" 32 m_HT_near 0 1 := ⟨e_HT_near, Or.inl (List.mem_of_getElem? (i := 478) rfl), (List.mem_of_getElem? (i := 461) rfl), (List.mem_of_getElem? (i := 462) rfl), rfl, by decide, by decide +kernel⟩
set_option maxRecDepth 20000 in
theorem i_LW_36 : jy_IV "HazardTablesLaw" 36 m_HT_add 0 2 := ⟨e_HT_add, Or.inl (List.mem_of_getElem? (i := 482) rfl), (List.mem_of_getElem? (i := 483) rfl), (List.mem_of_getElem? (i := 484) rfl), rfl, by decide, by decide +kernel⟩
set_option maxRecDepth 20000 in
theorem i_LW_39 : jy_IV "HazardTablesLaw" 39 m_HT_mixture 0 1 := ⟨e_HT_mixture, Or.inl (List.mem_of_getElem? (i := 523) rfl), (List.mem_of_getElem? (i := 524) rfl), (List.mem_of_getElem? (i := 525) rfl), rfl, by decide, by decide +kernel⟩
set_option maxRecDepth 20000 in
theorem i_LW_42 : jy_IV "HazardTablesLaw" 42 m_HT_strict 0 1 := ⟨e_HT_strict, Or.inl (List.mem_of_getElem? (i := 549) rfl), (List.mem_of_getElem? (i := 550) rfl), (List.mem_of_getElem? (i := 551) rfl), rfl, by decide, by decide +kernel⟩
set_option maxRecDepth 20000 in
theorem i_LW_45 : jy_IV "HazardTablesLaw" 45 m_HT_building 0 2 := ⟨e_HT_building, Or.inl (List.mem_of_getElem? (i := 556) rfl), (List.mem_of_getElem? (i := 557) rfl), (List.mem_of_getElem? (i := 558) rfl), rfl, by decide, by decide +kernel⟩
set_option maxRecDepth 20000 in
theorem i_LW_48 : jy_IV "HazardTablesLaw" 48 m_HT_wind 0 3 := ⟨e_HT_wind, Or.inl (List.mem_of_getElem? (i := 583) rfl), (List.mem_of_getElem? (i := 584) rfl), (List.mem_of_getElem? (i := 585) rfl), rfl, by decide, by decide +kernel⟩
set_option maxRecDepth 20000 in
theorem i_LW_52 : jy_IV "HazardTablesLaw" 52 m_HT_fresh 0 1 := ⟨e_HT_fresh, Or.inl (List.mem_of_getElem? (i := 595) rfl), (List.mem_of_getElem? (i := 596) rfl), (List.mem_of_getElem? (i := 597) rfl), rfl, by decide, by decide +kernel⟩
set_option maxRecDepth 20000 in
theorem i_LW_55 : jy_IV "HazardTablesLaw" 55 m_HT_in 0 2 := ⟨e_HT_in, Or.inl (List.mem_of_getElem? (i := 602) rfl), (List.mem_of_getElem? (i := 603) rfl), (List.mem_of_getElem? (i := 604) rfl), rfl, by decide, by decide +kernel⟩
set_option maxRecDepth 20000 in
theorem i_LW_59 : jy_IV "HazardTablesLaw" 59 m_HT_step 0 1 := ⟨e_HT_step, Or.inl (List.mem_of_getElem? (i := 609) rfl), (List.mem_of_getElem? (i := 610) rfl), (List.mem_of_getElem? (i := 611) rfl), rfl, by decide, by decide +kernel⟩
set_option maxRecDepth 20000 in
theorem i_LW_62 : jy_IV "HazardTablesLaw" 62 m_HT_mark 0 2 := ⟨e_HT_mark, Or.inl (List.mem_of_getElem? (i := 616) rfl), (List.mem_of_getElem? (i := 617) rfl), (List.mem_of_getElem? (i := 618) rfl), rfl, by decide, by decide +kernel⟩
set_option maxRecDepth 20000 in
theorem i_LW_66 : jy_IV "HazardTablesLaw" 66 m_HT_over 0 2 := ⟨e_HT_over, Or.inl (List.mem_of_getElem? (i := 623) rfl), (List.mem_of_getElem? (i := 624) rfl), (List.mem_of_getElem? (i := 625) rfl), rfl, by decide, by decide +kernel⟩
set_option maxRecDepth 20000 in
theorem i_LW_69 : jy_II "HazardTablesLaw" 69 m_HT_init 0 := ⟨e_HT_init, Or.inl (List.mem_of_getElem? (i := 49) rfl), (List.mem_of_getElem? (i := 50) rfl), rfl, rfl, rfl, (List.mem_of_getElem? (i := 51) rfl), by decide +kernel⟩
set_option maxRecDepth 20000 in
theorem i_LW_72 : jy_II "HazardTablesLaw" 72 m_MO_init 0 := ⟨e_MO_init, Or.inl (List.mem_of_getElem? (i := 629) rfl), (List.mem_of_getElem? (i := 630) rfl), rfl, rfl, rfl, (List.mem_of_getElem? (i := 631) rfl), by decide +kernel⟩
set_option maxRecDepth 20000 in
theorem i_LW_75 : jy_IS "HazardTablesLaw" 75 m_LW_sign 4 := ⟨e_LW_sign, Or.inl (List.mem_of_getElem? (i := 156) rfl), (List.mem_of_getElem? (i := 157) rfl), by decide +kernel⟩
set_option maxRecDepth 20000 in
theorem i_LW_80 : jy_IV "HazardTablesLaw" 80 m_MO_sign 7 2 := ⟨e_MO_sign, Or.inl (List.mem_of_getElem? (i := 729) rfl), (List.mem_of_getElem? (i := 730) rfl), (List.mem_of_getElem? (i := 731) rfl), rfl, by decide, by decide +kernel⟩
set_option maxRecDepth 20000 in
theorem i_LW_81 : jy_IV "HazardTablesLaw" 81 m_MO_thrown 7 0 := ⟨e_MO_thrown, Or.inl (List.mem_of_getElem? (i := 725) rfl), (List.mem_of_getElem? (i := 726) rfl), (List.mem_of_getElem? (i := 727) rfl), rfl, by decide, by decide +kernel⟩
set_option maxRecDepth 20000 in
theorem i_LW_84 : jy_IS "HazardTablesLaw" 84 m_LW_read 2 := ⟨e_LW_read, Or.inl (List.mem_of_getElem? (i := 255) rfl), (List.mem_of_getElem? (i := 256) rfl), by decide +kernel⟩
set_option maxRecDepth 20000 in
theorem i_LW_87 : jy_IV "HazardTablesLaw" 87 m_MO_read 7 0 := ⟨e_MO_read, Or.inl (List.mem_of_getElem? (i := 740) rfl), (List.mem_of_getElem? (i := 741) rfl), (List.mem_of_getElem? (i := 742) rfl), rfl, by decide, by decide +kernel⟩
set_option maxRecDepth 20000 in
theorem i_LW_88 : jy_IV "HazardTablesLaw" 88 m_HT_place 0 0 := ⟨e_HT_place, Or.inl (List.mem_of_getElem? (i := 148) rfl), (List.mem_of_getElem? (i := 149) rfl), (List.mem_of_getElem? (i := 150) rfl), rfl, by decide, by decide +kernel⟩
set_option maxRecDepth 20000 in
theorem i_LW_91 : jy_IV "HazardTablesLaw" 91 m_MO_place 7 0 := ⟨e_MO_place, Or.inl (List.mem_of_getElem? (i := 792) rfl), (List.mem_of_getElem? (i := 793) rfl), (List.mem_of_getElem? (i := 794) rfl), rfl, by decide, by decide +kernel⟩
set_option maxRecDepth 20000 in
theorem i_LW_92 : jy_IS "HazardTablesLaw" 92 m_LW_material 4 := ⟨e_LW_material, Or.inl (List.mem_of_getElem? (i := 425) rfl), (List.mem_of_getElem? (i := 426) rfl), by decide +kernel⟩
set_option maxRecDepth 20000 in
theorem i_LW_95 : jy_IV "HazardTablesLaw" 95 m_MO_material 7 2 := ⟨e_MO_material, Or.inl (List.mem_of_getElem? (i := 796) rfl), (List.mem_of_getElem? (i := 797) rfl), (List.mem_of_getElem? (i := 798) rfl), rfl, by decide, by decide +kernel⟩
set_option maxRecDepth 20000 in
theorem i_LW_96 : jy_IS "HazardTablesLaw" 96 m_LW_say 4 := ⟨e_LW_say, Or.inl (List.mem_of_getElem? (i := 452) rfl), (List.mem_of_getElem? (i := 453) rfl), by decide +kernel⟩
set_option maxRecDepth 20000 in
theorem i_LW_98 : jy_IV "HazardTablesLaw" 98 m_MO_say 7 2 := ⟨e_MO_say, Or.inl (List.mem_of_getElem? (i := 804) rfl), (List.mem_of_getElem? (i := 805) rfl), (List.mem_of_getElem? (i := 806) rfl), rfl, by decide, by decide +kernel⟩
set_option maxRecDepth 20000 in
theorem i_LW_99 : jy_IS "HazardTablesLaw" 99 m_LW_near 3 := ⟨e_LW_near, Or.inl (List.mem_of_getElem? (i := 475) rfl), (List.mem_of_getElem? (i := 476) rfl), by decide +kernel⟩
set_option maxRecDepth 20000 in
theorem i_LW_102 : jy_IV "HazardTablesLaw" 102 m_MO_near 7 1 := ⟨e_MO_near, Or.inl (List.mem_of_getElem? (i := 823) rfl), (List.mem_of_getElem? (i := 824) rfl), (List.mem_of_getElem? (i := 825) rfl), rfl, by decide, by decide +kernel⟩
set_option maxRecDepth 20000 in
theorem i_LW_103 : jy_IS "HazardTablesLaw" 103 m_LW_add 4 := ⟨e_LW_add, Or.inl (List.mem_of_getElem? (i := 479) rfl), (List.mem_of_getElem? (i := 480) rfl), by decide +kernel⟩
set_option maxRecDepth 20000 in
theorem i_LW_105 : jy_IV "HazardTablesLaw" 105 m_MO_add 7 2 := ⟨e_MO_add, Or.inl (List.mem_of_getElem? (i := 827) rfl), (List.mem_of_getElem? (i := 828) rfl), (List.mem_of_getElem? (i := 829) rfl), rfl, by decide, by decide +kernel⟩
set_option maxRecDepth 20000 in
theorem i_LW_106 : jy_IV "HazardTablesLaw" 106 m_HT_clear 0 0 := ⟨e_HT_clear, Or.inl (List.mem_of_getElem? (i := 152) rfl), (List.mem_of_getElem? (i := 153) rfl), (List.mem_of_getElem? (i := 154) rfl), rfl, by decide, by decide +kernel⟩
set_option maxRecDepth 20000 in
theorem i_LW_109 : jy_IV "HazardTablesLaw" 109 m_MO_clear 7 0 := ⟨e_MO_clear, Or.inl (List.mem_of_getElem? (i := 836) rfl), (List.mem_of_getElem? (i := 789) rfl), (List.mem_of_getElem? (i := 790) rfl), rfl, by decide, by decide +kernel⟩
set_option maxRecDepth 20000 in
theorem i_LW_110 : jy_IS "HazardTablesLaw" 110 m_LW_mixture 3 := ⟨e_LW_mixture, Or.inl (List.mem_of_getElem? (i := 520) rfl), (List.mem_of_getElem? (i := 521) rfl), by decide +kernel⟩
set_option maxRecDepth 20000 in
theorem i_LW_112 : jy_IV "HazardTablesLaw" 112 m_MO_mixture 7 1 := ⟨e_MO_mixture, Or.inl (List.mem_of_getElem? (i := 837) rfl), (List.mem_of_getElem? (i := 838) rfl), (List.mem_of_getElem? (i := 839) rfl), rfl, by decide, by decide +kernel⟩
set_option maxRecDepth 20000 in
theorem i_LW_113 : jy_IS "HazardTablesLaw" 113 m_LW_strict 3 := ⟨e_LW_strict, Or.inl (List.mem_of_getElem? (i := 546) rfl), (List.mem_of_getElem? (i := 547) rfl), by decide +kernel⟩
set_option maxRecDepth 20000 in
theorem i_LW_115 : jy_IV "HazardTablesLaw" 115 m_MO_strict 7 1 := ⟨e_MO_strict, Or.inl (List.mem_of_getElem? (i := 849) rfl), (List.mem_of_getElem? (i := 850) rfl), (List.mem_of_getElem? (i := 851) rfl), rfl, by decide, by decide +kernel⟩
set_option maxRecDepth 20000 in
theorem i_LW_116 : jy_IS "HazardTablesLaw" 116 m_LW_building 4 := ⟨e_LW_building, Or.inl (List.mem_of_getElem? (i := 553) rfl), (List.mem_of_getElem? (i := 554) rfl), by decide +kernel⟩
set_option maxRecDepth 20000 in
theorem i_LW_118 : jy_IV "HazardTablesLaw" 118 m_MO_building 7 2 := ⟨e_MO_building, Or.inl (List.mem_of_getElem? (i := 853) rfl), (List.mem_of_getElem? (i := 854) rfl), (List.mem_of_getElem? (i := 855) rfl), rfl, by decide, by decide +kernel⟩
set_option maxRecDepth 20000 in
theorem i_LW_119 : jy_IS "HazardTablesLaw" 119 m_LW_wind 5 := ⟨e_LW_wind, Or.inl (List.mem_of_getElem? (i := 580) rfl), (List.mem_of_getElem? (i := 581) rfl), by decide +kernel⟩
set_option maxRecDepth 20000 in
theorem i_LW_122 : jy_IV "HazardTablesLaw" 122 m_MO_wind 7 3 := ⟨e_MO_wind, Or.inl (List.mem_of_getElem? (i := 860) rfl), (List.mem_of_getElem? (i := 861) rfl), (List.mem_of_getElem? (i := 862) rfl), rfl, by decide, by decide +kernel⟩
set_option maxRecDepth 20000 in
theorem i_LW_123 : jy_IS "HazardTablesLaw" 123 m_LW_fresh 3 := ⟨e_LW_fresh, Or.inl (List.mem_of_getElem? (i := 592) rfl), (List.mem_of_getElem? (i := 593) rfl), by decide +kernel⟩
set_option maxRecDepth 20000 in
theorem i_LW_125 : jy_IV "HazardTablesLaw" 125 m_MO_fresh 7 1 := ⟨e_MO_fresh, Or.inl (List.mem_of_getElem? (i := 869) rfl), (List.mem_of_getElem? (i := 870) rfl), (List.mem_of_getElem? (i := 871) rfl), rfl, by decide, by decide +kernel⟩
set_option maxRecDepth 20000 in
theorem i_LW_126 : jy_IS "HazardTablesLaw" 126 m_LW_in 4 := ⟨e_LW_in, Or.inl (List.mem_of_getElem? (i := 599) rfl), (List.mem_of_getElem? (i := 600) rfl), by decide +kernel⟩
set_option maxRecDepth 20000 in
theorem i_LW_128 : jy_IV "HazardTablesLaw" 128 m_MO_in 7 2 := ⟨e_MO_in, Or.inl (List.mem_of_getElem? (i := 873) rfl), (List.mem_of_getElem? (i := 874) rfl), (List.mem_of_getElem? (i := 875) rfl), rfl, by decide, by decide +kernel⟩
set_option maxRecDepth 20000 in
theorem i_LW_129 : jy_IS "HazardTablesLaw" 129 m_LW_step 3 := ⟨e_LW_step, Or.inl (List.mem_of_getElem? (i := 606) rfl), (List.mem_of_getElem? (i := 607) rfl), by decide +kernel⟩
set_option maxRecDepth 20000 in
theorem i_LW_131 : jy_IV "HazardTablesLaw" 131 m_MO_step 7 1 := ⟨e_MO_step, Or.inl (List.mem_of_getElem? (i := 877) rfl), (List.mem_of_getElem? (i := 878) rfl), (List.mem_of_getElem? (i := 879) rfl), rfl, by decide, by decide +kernel⟩
set_option maxRecDepth 20000 in
theorem i_LW_132 : jy_IS "HazardTablesLaw" 132 m_LW_mark 3 := ⟨e_LW_mark, Or.inl (List.mem_of_getElem? (i := 613) rfl), (List.mem_of_getElem? (i := 614) rfl), by decide +kernel⟩
set_option maxRecDepth 20000 in
theorem i_LW_135 : jy_IV "HazardTablesLaw" 135 m_MO_mark 7 2 := ⟨e_MO_mark, Or.inl (List.mem_of_getElem? (i := 881) rfl), (List.mem_of_getElem? (i := 882) rfl), (List.mem_of_getElem? (i := 883) rfl), rfl, by decide, by decide +kernel⟩
set_option maxRecDepth 20000 in
theorem i_LW_136 : jy_IS "HazardTablesLaw" 136 m_LW_over 4 := ⟨e_LW_over, Or.inl (List.mem_of_getElem? (i := 620) rfl), (List.mem_of_getElem? (i := 621) rfl), by decide +kernel⟩
set_option maxRecDepth 20000 in
theorem i_LW_138 : jy_IV "HazardTablesLaw" 138 m_MO_over 7 2 := ⟨e_MO_over, Or.inl (List.mem_of_getElem? (i := 885) rfl), (List.mem_of_getElem? (i := 886) rfl), (List.mem_of_getElem? (i := 887) rfl), rfl, by decide, by decide +kernel⟩
set_option maxRecDepth 20000 in
theorem o_MO_1 : Cond.methodLink "HazardTablesModel" 1 Lib.objectInit ∈ lw_tbl := (List.mem_of_getElem? (i := 632) rfl)
set_option maxRecDepth 20000 in
theorem i_MO_67 : jy_IS "HazardTablesModel" 67 m_MO_within 3 := ⟨e_MO_within, Or.inl (List.mem_of_getElem? (i := 733) rfl), (List.mem_of_getElem? (i := 734) rfl), by decide +kernel⟩
set_option maxRecDepth 20000 in
theorem i_MO_74 : jy_IV "HazardTablesModel" 74 m_MO_goes 7 3 := ⟨e_MO_goes, Or.inl (List.mem_of_getElem? (i := 736) rfl), (List.mem_of_getElem? (i := 738) rfl), (List.mem_of_getElem? (i := 8) rfl), rfl, by decide, by decide +kernel⟩
set_option maxRecDepth 20000 in
theorem i_MO_81 : jy_IV "HazardTablesModel" 81 m_MO_here 7 0 := ⟨e_MO_here, Or.inl (List.mem_of_getElem? (i := 748) rfl), (List.mem_of_getElem? (i := 750) rfl), (List.mem_of_getElem? (i := 10) rfl), rfl, by decide, by decide +kernel⟩
set_option maxRecDepth 20000 in
theorem i_MO_88 : jy_IV "HazardTablesModel" 88 m_MO_see 7 0 := ⟨e_MO_see, Or.inl (List.mem_of_getElem? (i := 744) rfl), (List.mem_of_getElem? (i := 746) rfl), (List.mem_of_getElem? (i := 9) rfl), rfl, by decide, by decide +kernel⟩
set_option maxRecDepth 20000 in
theorem i_MO_91 : jy_IV "HazardTablesModel" 91 m_MO_fail 7 1 := ⟨e_MO_fail, Or.inl (List.mem_of_getElem? (i := 756) rfl), (List.mem_of_getElem? (i := 758) rfl), (List.mem_of_getElem? (i := 12) rfl), rfl, by decide, by decide +kernel⟩
set_option maxRecDepth 20000 in
theorem i_MO_95 : jy_IV "HazardTablesModel" 95 m_MO_isDigit 7 0 := ⟨e_MO_isDigit, Or.inl (List.mem_of_getElem? (i := 764) rfl), (List.mem_of_getElem? (i := 766) rfl), (List.mem_of_getElem? (i := 14) rfl), rfl, by decide, by decide +kernel⟩
set_option maxRecDepth 20000 in
theorem i_MO_99 : jy_IV "HazardTablesModel" 99 m_MO_take 7 1 := ⟨e_MO_take, Or.inl (List.mem_of_getElem? (i := 772) rfl), (List.mem_of_getElem? (i := 774) rfl), (List.mem_of_getElem? (i := 16) rfl), rfl, by decide, by decide +kernel⟩
set_option maxRecDepth 20000 in
theorem i_MO_102 : jy_IV "HazardTablesModel" 102 m_MO_number 7 2 := ⟨e_MO_number, Or.inl (List.mem_of_getElem? (i := 760) rfl), (List.mem_of_getElem? (i := 762) rfl), (List.mem_of_getElem? (i := 13) rfl), rfl, by decide, by decide +kernel⟩
set_option maxRecDepth 20000 in
theorem i_MO_106 : jy_IV "HazardTablesModel" 106 m_MO_rising 7 3 := ⟨e_MO_rising, Or.inl (List.mem_of_getElem? (i := 780) rfl), (List.mem_of_getElem? (i := 782) rfl), (List.mem_of_getElem? (i := 18) rfl), rfl, by decide, by decide +kernel⟩
set_option maxRecDepth 20000 in
theorem i_MO_113 : jy_IV "HazardTablesModel" 113 m_MO_name 7 1 := ⟨e_MO_name, Or.inl (List.mem_of_getElem? (i := 768) rfl), (List.mem_of_getElem? (i := 770) rfl), (List.mem_of_getElem? (i := 15) rfl), rfl, by decide, by decide +kernel⟩
set_option maxRecDepth 20000 in
theorem i_MO_116 : jy_IV "HazardTablesModel" 116 m_MO_due 7 1 := ⟨e_MO_due, Or.inl (List.mem_of_getElem? (i := 776) rfl), (List.mem_of_getElem? (i := 778) rfl), (List.mem_of_getElem? (i := 17) rfl), rfl, by decide, by decide +kernel⟩
set_option maxRecDepth 20000 in
theorem i_MO_122 : jy_IV "HazardTablesModel" 122 m_MO_materialRow 7 0 := ⟨e_MO_materialRow, Or.inl (List.mem_of_getElem? (i := 752) rfl), (List.mem_of_getElem? (i := 754) rfl), (List.mem_of_getElem? (i := 11) rfl), rfl, by decide, by decide +kernel⟩
set_option maxRecDepth 20000 in
theorem i_MO_125 : jy_IV "HazardTablesModel" 125 m_MO_generalRow 7 0 := ⟨e_MO_generalRow, Or.inl (List.mem_of_getElem? (i := 784) rfl), (List.mem_of_getElem? (i := 786) rfl), (List.mem_of_getElem? (i := 19) rfl), rfl, by decide, by decide +kernel⟩
set_option maxRecDepth 20000 in
theorem i_MO_137 : jy_IV "HazardTablesModel" 137 m_MO_clear 7 0 := ⟨e_MO_clear, Or.inl (List.mem_of_getElem? (i := 788) rfl), (List.mem_of_getElem? (i := 789) rfl), (List.mem_of_getElem? (i := 790) rfl), rfl, by decide, by decide +kernel⟩
set_option maxRecDepth 20000 in
theorem i_MO_140 : jy_IV "HazardTablesModel" 140 m_MO_find 7 1 := ⟨e_MO_find, Or.inl (List.mem_of_getElem? (i := 800) rfl), (List.mem_of_getElem? (i := 802) rfl), (List.mem_of_getElem? (i := 20) rfl), rfl, by decide, by decide +kernel⟩
set_option maxRecDepth 20000 in
theorem i_MO_144 : jy_IS "HazardTablesModel" 144 m_MO_least 2 := ⟨e_MO_least, Or.inl (List.mem_of_getElem? (i := 820) rfl), (List.mem_of_getElem? (i := 821) rfl), by decide +kernel⟩
set_option maxRecDepth 20000 in
theorem i_MO_147 : jy_IV "HazardTablesModel" 147 m_MO_apart 7 1 := ⟨e_MO_apart, Or.inl (List.mem_of_getElem? (i := 816) rfl), (List.mem_of_getElem? (i := 818) rfl), (List.mem_of_getElem? (i := 23) rfl), rfl, by decide, by decide +kernel⟩
set_option maxRecDepth 20000 in
theorem i_MO_150 : jy_IV "HazardTablesModel" 150 m_MO_nearest 7 1 := ⟨e_MO_nearest, Or.inl (List.mem_of_getElem? (i := 812) rfl), (List.mem_of_getElem? (i := 814) rfl), (List.mem_of_getElem? (i := 22) rfl), rfl, by decide, by decide +kernel⟩
set_option maxRecDepth 20000 in
theorem i_MO_153 : jy_IV "HazardTablesModel" 153 m_MO_following 7 1 := ⟨e_MO_following, Or.inl (List.mem_of_getElem? (i := 808) rfl), (List.mem_of_getElem? (i := 810) rfl), (List.mem_of_getElem? (i := 21) rfl), rfl, by decide, by decide +kernel⟩
set_option maxRecDepth 20000 in
theorem i_MO_160 : jy_IV "HazardTablesModel" 160 m_MO_contradict 7 2 := ⟨e_MO_contradict, Or.inl (List.mem_of_getElem? (i := 832) rfl), (List.mem_of_getElem? (i := 834) rfl), (List.mem_of_getElem? (i := 24) rfl), rfl, by decide, by decide +kernel⟩
set_option maxRecDepth 20000 in
theorem i_MO_164 : jy_IV "HazardTablesModel" 164 m_MO_strictness 7 0 := ⟨e_MO_strictness, Or.inl (List.mem_of_getElem? (i := 841) rfl), (List.mem_of_getElem? (i := 843) rfl), (List.mem_of_getElem? (i := 25) rfl), rfl, by decide, by decide +kernel⟩
set_option maxRecDepth 20000 in
theorem i_MO_167 : jy_IV "HazardTablesModel" 167 m_MO_distance 7 1 := ⟨e_MO_distance, Or.inl (List.mem_of_getElem? (i := 845) rfl), (List.mem_of_getElem? (i := 847) rfl), (List.mem_of_getElem? (i := 26) rfl), rfl, by decide, by decide +kernel⟩
set_option maxRecDepth 20000 in
theorem i_MO_176 : jy_IS "HazardTablesModel" 176 m_MO_isPoint 2 := ⟨e_MO_isPoint, Or.inl (List.mem_of_getElem? (i := 857) rfl), (List.mem_of_getElem? (i := 858) rfl), by decide +kernel⟩
set_option maxRecDepth 20000 in
theorem i_MO_182 : jy_IV "HazardTablesModel" 182 m_MO_isIn 7 2 := ⟨e_MO_isIn, Or.inl (List.mem_of_getElem? (i := 864) rfl), (List.mem_of_getElem? (i := 866) rfl), (List.mem_of_getElem? (i := 27) rfl), rfl, by decide, by decide +kernel⟩
set_option maxRecDepth 20000 in
theorem l_HT_7 : Cond.classLink "HazardTables" 7 "HazardTables$Reader" ∈ lw_tbl := (List.mem_of_getElem? (i := 55) rfl)
set_option maxRecDepth 20000 in
theorem n_HT_7 : jy_N "HazardTables" 7 1 3 [.null, .int 0, .int 0] := ⟨_, _, k_RD, (List.mem_of_getElem? (i := 55) rfl), (List.mem_of_getElem? (i := 56) rfl), (List.mem_of_getElem? (i := 30) rfl), rfl, by decide +kernel, by simp⟩
set_option maxRecDepth 20000 in
theorem l_HT_16 : Cond.classLink "HazardTables" 16 "HazardTables$Table" ∈ lw_tbl := (List.mem_of_getElem? (i := 74) rfl)
set_option maxRecDepth 20000 in
theorem n_HT_16 : jy_N "HazardTables" 16 2 3 [.null, .int 0, .null] := ⟨_, _, k_TB, (List.mem_of_getElem? (i := 74) rfl), (List.mem_of_getElem? (i := 75) rfl), (List.mem_of_getElem? (i := 31) rfl), rfl, by decide +kernel, by simp⟩
set_option maxRecDepth 20000 in
theorem l_HT_35 : Cond.classLink "HazardTables" 35 "HazardTables$Part" ∈ lw_tbl := (List.mem_of_getElem? (i := 97) rfl)
set_option maxRecDepth 20000 in
theorem n_HT_35 : jy_N "HazardTables" 35 5 4 [.int 0, .null, .null, .int 0] := ⟨_, _, k_PT, (List.mem_of_getElem? (i := 97) rfl), (List.mem_of_getElem? (i := 487) rfl), (List.mem_of_getElem? (i := 45) rfl), rfl, by decide +kernel, by simp⟩
set_option maxRecDepth 20000 in
theorem l_HT_41 : Cond.classLink "HazardTables" 41 "HazardTables$Building" ∈ lw_tbl := (List.mem_of_getElem? (i := 99) rfl)
set_option maxRecDepth 20000 in
theorem n_HT_41 : jy_N "HazardTables" 41 6 3 [.int 0, .int 0, .int 0] := ⟨_, _, k_BU, (List.mem_of_getElem? (i := 99) rfl), (List.mem_of_getElem? (i := 563) rfl), (List.mem_of_getElem? (i := 46) rfl), rfl, by decide +kernel, by simp⟩
set_option maxRecDepth 20000 in
theorem l_HT_60 : Cond.classLink "HazardTables" 60 "java/lang/IllegalArgumentException" ∈ lw_tbl := (List.mem_of_getElem? (i := 436) rfl)
set_option maxRecDepth 20000 in
theorem l_HT_63 : Cond.classLink "HazardTables" 63 "java/lang/IndexOutOfBoundsException" ∈ lw_tbl := (List.mem_of_getElem? (i := 171) rfl)
set_option maxRecDepth 20000 in
theorem l_HT_66 : Cond.classLink "HazardTables" 66 "java/lang/IllegalStateException" ∈ lw_tbl := (List.mem_of_getElem? (i := 409) rfl)
set_option maxRecDepth 20000 in
theorem l_HT_69 : Cond.classLink "HazardTables" 69 "java/lang/UnsupportedOperationException" ∈ lw_tbl := (List.mem_of_getElem? (i := 240) rfl)
set_option maxRecDepth 20000 in
theorem l_HT_93 : Cond.classLink "HazardTables" 93 "HazardTables$Wrong" ∈ lw_tbl := (List.mem_of_getElem? (i := 263) rfl)
set_option maxRecDepth 20000 in
theorem l_MA_9 : Cond.classLink "HazardTables$Material" 9 "[B" ∈ lw_tbl := (List.mem_of_getElem? (i := 328) rfl)
set_option maxRecDepth 20000 in
theorem l_RD_22 : Cond.classLink "HazardTables$Reader" 22 "HazardTables$Wrong" ∈ lw_tbl := (List.mem_of_getElem? (i := 278) rfl)
set_option maxRecDepth 20000 in
theorem n_RD_22 : jy_N "HazardTables$Reader" 22 13 7 [.null, .null, .null, .null, .null, .int 0, .int 0] := ⟨_, _, k_WF, (List.mem_of_getElem? (i := 278) rfl), (List.mem_of_getElem? (i := 279) rfl), (List.mem_of_getElem? (i := 38) rfl), rfl, by decide +kernel, by simp⟩
set_option maxRecDepth 20000 in
theorem l_RD_48 : Cond.classLink "HazardTables$Reader" 48 "HazardTables$Due" ∈ lw_tbl := (List.mem_of_getElem? (i := 374) rfl)
set_option maxRecDepth 20000 in
theorem n_RD_48 : jy_N "HazardTables$Reader" 48 4 3 [.int 0, .int 0, .null] := ⟨_, _, k_DU, (List.mem_of_getElem? (i := 374) rfl), (List.mem_of_getElem? (i := 375) rfl), (List.mem_of_getElem? (i := 41) rfl), rfl, by decide +kernel, by simp⟩
set_option maxRecDepth 20000 in
theorem l_RD_70 : Cond.classLink "HazardTables$Reader" 70 "HazardTables$Table" ∈ lw_tbl := (List.mem_of_getElem? (i := 268) rfl)
set_option maxRecDepth 20000 in
theorem n_RD_70 : jy_N "HazardTables$Reader" 70 2 3 [.null, .int 0, .null] := ⟨_, _, k_TB, (List.mem_of_getElem? (i := 268) rfl), (List.mem_of_getElem? (i := 75) rfl), (List.mem_of_getElem? (i := 31) rfl), rfl, by decide +kernel, by simp⟩
set_option maxRecDepth 20000 in
theorem l_RD_75 : Cond.classLink "HazardTables$Reader" 75 "HazardTables$Material" ∈ lw_tbl := (List.mem_of_getElem? (i := 322) rfl)
set_option maxRecDepth 20000 in
theorem n_RD_75 : jy_N "HazardTables$Reader" 75 3 6 [.int 0, .null, .int 0, .int 0, .int 0, .null] := ⟨_, _, k_MA, (List.mem_of_getElem? (i := 322) rfl), (List.mem_of_getElem? (i := 323) rfl), (List.mem_of_getElem? (i := 39) rfl), rfl, by decide +kernel, by simp⟩
set_option maxRecDepth 20000 in
theorem l_TB_9 : Cond.classLink "HazardTables$Table" 9 "HazardTables$Material" ∈ lw_tbl := (List.mem_of_getElem? (i := 80) rfl)
set_option maxRecDepth 20000 in
theorem l_LW_8 : Cond.classLink "HazardTablesLaw" 8 "HazardTables" ∈ lw_tbl := (List.mem_of_getElem? (i := 47) rfl)
set_option maxRecDepth 20000 in
theorem n_LW_8 : jy_N "HazardTablesLaw" 8 0 15 [.null, .null, .int 0, .null, .int 0, .null, .null, .null, .int 0, .int 0, .int 0, .int 0, .int 0, .int 0, .null] := ⟨_, _, k_HT, (List.mem_of_getElem? (i := 47) rfl), (List.mem_of_getElem? (i := 48) rfl), (List.mem_of_getElem? (i := 29) rfl), rfl, by decide +kernel, by simp⟩
set_option maxRecDepth 20000 in
theorem l_LW_13 : Cond.classLink "HazardTablesLaw" 13 "java/lang/IndexOutOfBoundsException" ∈ lw_tbl := (List.mem_of_getElem? (i := 159) rfl)
set_option maxRecDepth 20000 in
theorem l_LW_15 : Cond.classLink "HazardTablesLaw" 15 "java/lang/UnsupportedOperationException" ∈ lw_tbl := (List.mem_of_getElem? (i := 160) rfl)
set_option maxRecDepth 20000 in
theorem l_LW_21 : Cond.classLink "HazardTablesLaw" 21 "java/lang/IllegalStateException" ∈ lw_tbl := (List.mem_of_getElem? (i := 258) rfl)
set_option maxRecDepth 20000 in
theorem l_LW_27 : Cond.classLink "HazardTablesLaw" 27 "java/lang/IllegalArgumentException" ∈ lw_tbl := (List.mem_of_getElem? (i := 428) rfl)
set_option maxRecDepth 20000 in
theorem l_LW_70 : Cond.classLink "HazardTablesLaw" 70 "HazardTablesModel" ∈ lw_tbl := (List.mem_of_getElem? (i := 627) rfl)
set_option maxRecDepth 20000 in
theorem n_LW_70 : jy_N "HazardTablesLaw" 70 7 30 [.int 0, .int 0, .null, .int 0, .int 0, .int 0, .null, .int 0, .int 0, .null, .int 0, .int 0, .int 0, .null, .null, .null, .int 0, .int 0, .int 0, .int 0, .null, .null, .null, .int 0, .null, .int 0, .null, .int 0, .null, .null] := ⟨_, _, k_MO, (List.mem_of_getElem? (i := 627) rfl), (List.mem_of_getElem? (i := 628) rfl), (List.mem_of_getElem? (i := 32) rfl), rfl, by decide +kernel, by simp⟩
set_option maxRecDepth 20000 in
theorem a_cbyte : Cond.arrayClass .byte ∈ lw_tbl := (List.mem_of_getElem? (i := 73) rfl)
set_option maxRecDepth 20000 in
theorem a_oMaterial : Cond.arrayOver (.object "HazardTables$Material") ∈ lw_tbl := (List.mem_of_getElem? (i := 81) rfl)
set_option maxRecDepth 20000 in
theorem a_oPart : Cond.arrayOver (.object "HazardTables$Part") ∈ lw_tbl := (List.mem_of_getElem? (i := 98) rfl)
set_option maxRecDepth 20000 in
theorem a_oBuilding : Cond.arrayOver (.object "HazardTables$Building") ∈ lw_tbl := (List.mem_of_getElem? (i := 100) rfl)
set_option maxRecDepth 20000 in
theorem a_cint : Cond.arrayClass .int ∈ lw_tbl := (List.mem_of_getElem? (i := 147) rfl)
set_option maxRecDepth 20000 in
theorem a_oarraybyte : Cond.arrayOver (.array .byte) ∈ lw_tbl := (List.mem_of_getElem? (i := 329) rfl)
set_option maxRecDepth 20000 in
theorem a_cboolean : Cond.arrayClass .boolean ∈ lw_tbl := (List.mem_of_getElem? (i := 724) rfl)
set_option maxRecDepth 20000 in
theorem a_clong : Cond.arrayClass .long ∈ lw_tbl := (List.mem_of_getElem? (i := 890) rfl)
set_option maxRecDepth 20000 in
theorem w_HT_172 : Cond.constant "HazardTables" 172 100000 ∈ lw_tbl := (List.mem_of_getElem? (i := 486) rfl)
set_option maxRecDepth 20000 in
theorem w_MO_156 : Cond.constant "HazardTablesModel" 156 100000 ∈ lw_tbl := (List.mem_of_getElem? (i := 831) rfl)
set_option maxRecDepth 20000 in
theorem w_HT_156 : Cond.constantLong "HazardTables" 156 255 ∈ lw_tbl := (List.mem_of_getElem? (i := 459) rfl)
set_option maxRecDepth 20000 in
theorem w_HT_217 : Cond.constantLong "HazardTables" 217 2 ∈ lw_tbl := (List.mem_of_getElem? (i := 591) rfl)
set_option maxRecDepth 20000 in
theorem w_MO_174 : Cond.constantLong "HazardTablesModel" 174 2 ∈ lw_tbl := (List.mem_of_getElem? (i := 868) rfl)
set_option maxRecDepth 20000 in
theorem w_LW_73 : Cond.constantLong "HazardTablesLaw" 73 4294967295 ∈ lw_tbl := (List.mem_of_getElem? (i := 889) rfl)
set_option maxRecDepth 20000 in
theorem o_inst : Cond.instanceMethod Lib.objectInit ∈ lw_tbl := (List.mem_of_getElem? (i := 53) rfl)
set_option maxRecDepth 20000 in
theorem o_code : Cond.code Lib.objectInit ⟨#[0xb1]⟩ 1 none ∈ lw_tbl := (List.mem_of_getElem? (i := 54) rfl)
set_option maxRecDepth 20000 in
theorem o_copy_nat : Cond.native arraycopyName ∈ lw_tbl := (List.mem_of_getElem? (i := 369) rfl)
set_option maxRecDepth 20000 in
theorem o_copy_stat : Cond.static arraycopyName ∈ lw_tbl := (List.mem_of_getElem? (i := 368) rfl)
set_option maxRecDepth 20000 in
theorem o_copy_ini : Cond.initialized "java/lang/System" ∈ lw_tbl := (List.mem_of_getElem? (i := 40) rfl)
