/-! the law: names, links, decode rows (printed by gen/lawnames.py) -/
def m_W_rule : xM := (⟨"RepairDeskLaw", "rule", "(LRepairDesk;[J)I"⟩, method_3_code, 3, (some .int))
def m_W_compile : xM := (⟨"RepairDeskLaw", "compile", "(LRepairDesk;[J)I"⟩, method_4_code, 3, (some .int))
def m_W_text : xM := (⟨"RepairDeskLaw", "text", "(LRepairDesk;[J)I"⟩, method_5_code, 3, (some .int))
def m_W_parse : xM := (⟨"RepairDeskLaw", "parse", "(LRepairDesk;[J)I"⟩, method_6_code, 3, (some .int))
def m_W_repair : xM := (⟨"RepairDeskLaw", "repair", "(LRepairDesk;I[J)I"⟩, method_7_code, 4, (some .int))
def m_W_reach : xM := (⟨"RepairDeskLaw", "reach", "(LRepairDesk;I[J)I"⟩, method_8_code, 4, (some .int))
def m_W_apply : xM := (⟨"RepairDeskLaw", "apply", "(LRepairDesk;I[J)I"⟩, method_9_code, 4, (some .int))
def m_L : xM := (⟨"RepairDeskLaw", "law", "([I)Z"⟩, code, 7, (some .boolean))
theorem cs_W_7 : xCv "RepairDeskLaw" 7 m_D_rule 0 := ⟨mk_D_rule, xin 308 (by decide +kernel) (by decide +kernel), xin 309 (by decide +kernel) (by decide +kernel), xin 310 (by decide +kernel) (by decide +kernel)⟩
theorem cs_W_17 : xCv "RepairDeskLaw" 17 m_D_compile 0 := ⟨mk_D_compile, xin 671 (by decide +kernel) (by decide +kernel), xin 672 (by decide +kernel) (by decide +kernel), xin 673 (by decide +kernel) (by decide +kernel)⟩
theorem cs_W_22 : xCv "RepairDeskLaw" 22 m_D_text 0 := ⟨mk_D_text, xin 784 (by decide +kernel) (by decide +kernel), xin 785 (by decide +kernel) (by decide +kernel), xin 786 (by decide +kernel) (by decide +kernel)⟩
theorem cs_W_25 : xCv "RepairDeskLaw" 25 m_D_parse 0 := ⟨mk_D_parse, xin 791 (by decide +kernel) (by decide +kernel), xin 792 (by decide +kernel) (by decide +kernel), xin 793 (by decide +kernel) (by decide +kernel)⟩
theorem cs_W_28 : xCv "RepairDeskLaw" 28 m_D_repair 1 := ⟨mk_D_repair, xin 802 (by decide +kernel) (by decide +kernel), xin 803 (by decide +kernel) (by decide +kernel), xin 804 (by decide +kernel) (by decide +kernel)⟩
theorem cs_W_32 : xCv "RepairDeskLaw" 32 m_D_reach 1 := ⟨mk_D_reach, xin 825 (by decide +kernel) (by decide +kernel), xin 826 (by decide +kernel) (by decide +kernel), xin 827 (by decide +kernel) (by decide +kernel)⟩
theorem cs_W_37 : xCv "RepairDeskLaw" 37 m_D_apply 1 := ⟨mk_D_apply, xin 851 (by decide +kernel) (by decide +kernel), xin 852 (by decide +kernel) (by decide +kernel), xin 853 (by decide +kernel) (by decide +kernel)⟩
theorem cs_W_40 : xCi "RepairDeskLaw" 40 m_D_init 0 := ⟨mk_D_init, xin 29 (by decide +kernel) (by decide +kernel), xin 30 (by decide +kernel) (by decide +kernel), rfl, rfl⟩
theorem cs_W_43 : xCi "RepairDeskLaw" 43 m_P_init 0 := ⟨mk_P_init, xin 857 (by decide +kernel) (by decide +kernel), xin 858 (by decide +kernel) (by decide +kernel), rfl, rfl⟩
theorem cs_W_44 : xCv "RepairDeskLaw" 44 m_D_write 1 := ⟨mk_D_write, xin 173 (by decide +kernel) (by decide +kernel), xin 174 (by decide +kernel) (by decide +kernel), xin 175 (by decide +kernel) (by decide +kernel)⟩
theorem cs_W_48 : xCv "RepairDeskLaw" 48 m_P_write 1 := ⟨mk_P_write, xin 954 (by decide +kernel) (by decide +kernel), xin 955 (by decide +kernel) (by decide +kernel), xin 956 (by decide +kernel) (by decide +kernel)⟩
theorem wl_W_rule : Cond.methodLink "RepairDeskLaw" 49 m_W_rule.1 ∈ xtb := xin 303 (by decide +kernel) (by decide +kernel)
theorem ws_W_rule : Cond.static m_W_rule.1 ∈ xtb := xin 304 (by decide +kernel) (by decide +kernel)
theorem wc_W_rule : Cond.codeWith m_W_rule.1 m_W_rule.2.1 m_W_rule.2.2.1 m_W_rule.2.2.2 [(0, 8, 11, 13), (0, 8, 14, 15)] ∈ xtb := xin 305 (by decide +kernel) (by decide +kernel)
theorem cs_W_54 : xCv "RepairDeskLaw" 54 m_P_rule 0 := ⟨mk_P_rule, xin 958 (by decide +kernel) (by decide +kernel), xin 959 (by decide +kernel) (by decide +kernel), xin 960 (by decide +kernel) (by decide +kernel)⟩
theorem cs_W_55 : xCv "RepairDeskLaw" 55 m_P_thrown 0 := ⟨mk_P_thrown, xin 950 (by decide +kernel) (by decide +kernel), xin 951 (by decide +kernel) (by decide +kernel), xin 952 (by decide +kernel) (by decide +kernel)⟩
theorem wl_W_compile : Cond.methodLink "RepairDeskLaw" 58 m_W_compile.1 ∈ xtb := xin 667 (by decide +kernel) (by decide +kernel)
theorem ws_W_compile : Cond.static m_W_compile.1 ∈ xtb := xin 668 (by decide +kernel) (by decide +kernel)
theorem wc_W_compile : Cond.codeWith m_W_compile.1 m_W_compile.2.1 m_W_compile.2.2.1 m_W_compile.2.2.2 [(0, 8, 11, 15), (0, 8, 14, 20)] ∈ xtb := xin 669 (by decide +kernel) (by decide +kernel)
theorem cs_W_60 : xCv "RepairDeskLaw" 60 m_P_compile 0 := ⟨mk_P_compile, xin 976 (by decide +kernel) (by decide +kernel), xin 977 (by decide +kernel) (by decide +kernel), xin 978 (by decide +kernel) (by decide +kernel)⟩
theorem wl_W_text : Cond.methodLink "RepairDeskLaw" 61 m_W_text.1 ∈ xtb := xin 781 (by decide +kernel) (by decide +kernel)
theorem ws_W_text : Cond.static m_W_text.1 ∈ xtb := xin 782 (by decide +kernel) (by decide +kernel)
theorem wc_W_text : Cond.codeWith m_W_text.1 m_W_text.2.1 m_W_text.2.2.1 m_W_text.2.2.2 [(0, 8, 11, 13)] ∈ xtb := xin 783 (by decide +kernel) (by decide +kernel)
theorem cs_W_63 : xCv "RepairDeskLaw" 63 m_P_text 0 := ⟨mk_P_text, xin 1012 (by decide +kernel) (by decide +kernel), xin 1013 (by decide +kernel) (by decide +kernel), xin 1014 (by decide +kernel) (by decide +kernel)⟩
theorem cs_W_64 : xCv "RepairDeskLaw" 64 m_D_cost 3 := ⟨mk_D_cost, xin 279 (by decide +kernel) (by decide +kernel), xin 280 (by decide +kernel) (by decide +kernel), xin 281 (by decide +kernel) (by decide +kernel)⟩
theorem cs_W_68 : xCv "RepairDeskLaw" 68 m_P_cost 3 := ⟨mk_P_cost, xin 1016 (by decide +kernel) (by decide +kernel), xin 1017 (by decide +kernel) (by decide +kernel), xin 1018 (by decide +kernel) (by decide +kernel)⟩
theorem wl_W_parse : Cond.methodLink "RepairDeskLaw" 69 m_W_parse.1 ∈ xtb := xin 788 (by decide +kernel) (by decide +kernel)
theorem ws_W_parse : Cond.static m_W_parse.1 ∈ xtb := xin 789 (by decide +kernel) (by decide +kernel)
theorem wc_W_parse : Cond.codeWith m_W_parse.1 m_W_parse.2.1 m_W_parse.2.2.1 m_W_parse.2.2.2 [(0, 8, 11, 15)] ∈ xtb := xin 790 (by decide +kernel) (by decide +kernel)
theorem cs_W_71 : xCv "RepairDeskLaw" 71 m_P_parse 0 := ⟨mk_P_parse, xin 1020 (by decide +kernel) (by decide +kernel), xin 1021 (by decide +kernel) (by decide +kernel), xin 1022 (by decide +kernel) (by decide +kernel)⟩
theorem wl_W_repair : Cond.methodLink "RepairDeskLaw" 72 m_W_repair.1 ∈ xtb := xin 799 (by decide +kernel) (by decide +kernel)
theorem ws_W_repair : Cond.static m_W_repair.1 ∈ xtb := xin 800 (by decide +kernel) (by decide +kernel)
theorem wc_W_repair : Cond.codeWith m_W_repair.1 m_W_repair.2.1 m_W_repair.2.2.1 m_W_repair.2.2.2 [(0, 9, 12, 15), (0, 9, 15, 13), (0, 9, 18, 20)] ∈ xtb := xin 801 (by decide +kernel) (by decide +kernel)
theorem cs_W_75 : xCv "RepairDeskLaw" 75 m_P_repair 1 := ⟨mk_P_repair, xin 1036 (by decide +kernel) (by decide +kernel), xin 1037 (by decide +kernel) (by decide +kernel), xin 1038 (by decide +kernel) (by decide +kernel)⟩
theorem cs_W_76 : xCv "RepairDeskLaw" 76 m_D_step 2 := ⟨mk_D_step, xin 283 (by decide +kernel) (by decide +kernel), xin 284 (by decide +kernel) (by decide +kernel), xin 285 (by decide +kernel) (by decide +kernel)⟩
theorem cs_W_80 : xCv "RepairDeskLaw" 80 m_P_step 2 := ⟨mk_P_step, xin 1052 (by decide +kernel) (by decide +kernel), xin 1053 (by decide +kernel) (by decide +kernel), xin 1054 (by decide +kernel) (by decide +kernel)⟩
theorem cs_W_81 : xCv "RepairDeskLaw" 81 m_D_price 0 := ⟨mk_D_price, xin 287 (by decide +kernel) (by decide +kernel), xin 288 (by decide +kernel) (by decide +kernel), xin 289 (by decide +kernel) (by decide +kernel)⟩
theorem cs_W_84 : xCv "RepairDeskLaw" 84 m_P_price 0 := ⟨mk_P_price, xin 1056 (by decide +kernel) (by decide +kernel), xin 1057 (by decide +kernel) (by decide +kernel), xin 1058 (by decide +kernel) (by decide +kernel)⟩
theorem wl_W_reach : Cond.methodLink "RepairDeskLaw" 85 m_W_reach.1 ∈ xtb := xin 821 (by decide +kernel) (by decide +kernel)
theorem ws_W_reach : Cond.static m_W_reach.1 ∈ xtb := xin 822 (by decide +kernel) (by decide +kernel)
theorem wc_W_reach : Cond.codeWith m_W_reach.1 m_W_reach.2.1 m_W_reach.2.2.1 m_W_reach.2.2.2 [(0, 9, 12, 35)] ∈ xtb := xin 823 (by decide +kernel) (by decide +kernel)
theorem cs_W_87 : xCv "RepairDeskLaw" 87 m_P_reach 1 := ⟨mk_P_reach, xin 1060 (by decide +kernel) (by decide +kernel), xin 1061 (by decide +kernel) (by decide +kernel), xin 1062 (by decide +kernel) (by decide +kernel)⟩
theorem wl_W_apply : Cond.methodLink "RepairDeskLaw" 88 m_W_apply.1 ∈ xtb := xin 848 (by decide +kernel) (by decide +kernel)
theorem ws_W_apply : Cond.static m_W_apply.1 ∈ xtb := xin 849 (by decide +kernel) (by decide +kernel)
theorem wc_W_apply : Cond.codeWith m_W_apply.1 m_W_apply.2.1 m_W_apply.2.2.1 m_W_apply.2.2.2 [(0, 9, 12, 35), (0, 9, 15, 15)] ∈ xtb := xin 850 (by decide +kernel) (by decide +kernel)
theorem cs_W_90 : xCv "RepairDeskLaw" 90 m_P_apply 1 := ⟨mk_P_apply, xin 1064 (by decide +kernel) (by decide +kernel), xin 1065 (by decide +kernel) (by decide +kernel), xin 1066 (by decide +kernel) (by decide +kernel)⟩
theorem cs_W_91 : xCv "RepairDeskLaw" 91 m_D_letter 1 := ⟨mk_D_letter, xin 291 (by decide +kernel) (by decide +kernel), xin 292 (by decide +kernel) (by decide +kernel), xin 293 (by decide +kernel) (by decide +kernel)⟩
theorem cs_W_94 : xCv "RepairDeskLaw" 94 m_P_letter 1 := ⟨mk_P_letter, xin 1068 (by decide +kernel) (by decide +kernel), xin 1069 (by decide +kernel) (by decide +kernel), xin 1070 (by decide +kernel) (by decide +kernel)⟩
theorem cs_W_95 : xCv "RepairDeskLaw" 95 m_D_count 1 := ⟨mk_D_count, xin 295 (by decide +kernel) (by decide +kernel), xin 296 (by decide +kernel) (by decide +kernel), xin 297 (by decide +kernel) (by decide +kernel)⟩
theorem cs_W_98 : xCv "RepairDeskLaw" 98 m_P_count 1 := ⟨mk_P_count, xin 1072 (by decide +kernel) (by decide +kernel), xin 1073 (by decide +kernel) (by decide +kernel), xin 1074 (by decide +kernel) (by decide +kernel)⟩
theorem w_lD : Cond.classLink "RepairDeskLaw" 8 "RepairDesk" ∈ xtb := xin 27 (by decide +kernel) (by decide +kernel)
theorem w_inD : Cond.instantiable "RepairDesk" 23 ∈ xtb := xin 28 (by decide +kernel) (by decide +kernel)
theorem w_iniD : Cond.initialized "RepairDesk" ∈ xtb := xin 1 (by decide +kernel) (by decide +kernel)
theorem w_lM : Cond.classLink "RepairDeskLaw" 41 "RepairDeskModel" ∈ xtb := xin 855 (by decide +kernel) (by decide +kernel)
theorem w_inM : Cond.instantiable "RepairDeskModel" 29 ∈ xtb := xin 856 (by decide +kernel) (by decide +kernel)
theorem w_iniM : Cond.initialized "RepairDeskModel" ∈ xtb := xin 9 (by decide +kernel) (by decide +kernel)
theorem w_iniL : Cond.initialized "RepairDeskLaw" ∈ xtb := xin 0 (by decide +kernel) (by decide +kernel)
theorem d_W_rule_0 : decode m_W_rule.2.1 0 = .ok (.aload_n 1, 1) := by decide +kernel
theorem d_W_rule_1 : decode m_W_rule.2.1 1 = .ok (.iconst 0, 1) := by decide +kernel
theorem d_W_rule_2 : decode m_W_rule.2.1 2 = .ok (.aload_n 0, 1) := by decide +kernel
theorem d_W_rule_3 : decode m_W_rule.2.1 3 = .ok (.invokevirtual 7, 3) := by decide +kernel
theorem d_W_rule_6 : decode m_W_rule.2.1 6 = .ok (.i2l, 1) := by decide +kernel
theorem d_W_rule_7 : decode m_W_rule.2.1 7 = .ok (.lastore, 1) := by decide +kernel
theorem d_W_rule_8 : decode m_W_rule.2.1 8 = .ok (.goto 9, 3) := by decide +kernel
theorem d_W_rule_11 : decode m_W_rule.2.1 11 = .ok (.astore_n 2, 1) := by decide +kernel
theorem d_W_rule_12 : decode m_W_rule.2.1 12 = .ok (.iconst 1, 1) := by decide +kernel
theorem d_W_rule_13 : decode m_W_rule.2.1 13 = .ok (.ireturn, 1) := by decide +kernel
theorem d_W_rule_14 : decode m_W_rule.2.1 14 = .ok (.astore_n 2, 1) := by decide +kernel
theorem d_W_rule_15 : decode m_W_rule.2.1 15 = .ok (.iconst 2, 1) := by decide +kernel
theorem d_W_rule_16 : decode m_W_rule.2.1 16 = .ok (.ireturn, 1) := by decide +kernel
theorem d_W_rule_17 : decode m_W_rule.2.1 17 = .ok (.iconst 0, 1) := by decide +kernel
theorem d_W_rule_18 : decode m_W_rule.2.1 18 = .ok (.ireturn, 1) := by decide +kernel
theorem d_W_compile_0 : decode m_W_compile.2.1 0 = .ok (.aload_n 1, 1) := by decide +kernel
theorem d_W_compile_1 : decode m_W_compile.2.1 1 = .ok (.iconst 0, 1) := by decide +kernel
theorem d_W_compile_2 : decode m_W_compile.2.1 2 = .ok (.aload_n 0, 1) := by decide +kernel
theorem d_W_compile_3 : decode m_W_compile.2.1 3 = .ok (.invokevirtual 17, 3) := by decide +kernel
theorem d_W_compile_6 : decode m_W_compile.2.1 6 = .ok (.i2l, 1) := by decide +kernel
theorem d_W_compile_7 : decode m_W_compile.2.1 7 = .ok (.lastore, 1) := by decide +kernel
theorem d_W_compile_8 : decode m_W_compile.2.1 8 = .ok (.goto 9, 3) := by decide +kernel
theorem d_W_compile_11 : decode m_W_compile.2.1 11 = .ok (.astore_n 2, 1) := by decide +kernel
theorem d_W_compile_12 : decode m_W_compile.2.1 12 = .ok (.iconst 1, 1) := by decide +kernel
theorem d_W_compile_13 : decode m_W_compile.2.1 13 = .ok (.ireturn, 1) := by decide +kernel
theorem d_W_compile_14 : decode m_W_compile.2.1 14 = .ok (.astore_n 2, 1) := by decide +kernel
theorem d_W_compile_15 : decode m_W_compile.2.1 15 = .ok (.iconst 2, 1) := by decide +kernel
theorem d_W_compile_16 : decode m_W_compile.2.1 16 = .ok (.ireturn, 1) := by decide +kernel
theorem d_W_compile_17 : decode m_W_compile.2.1 17 = .ok (.iconst 0, 1) := by decide +kernel
theorem d_W_compile_18 : decode m_W_compile.2.1 18 = .ok (.ireturn, 1) := by decide +kernel
theorem d_W_text_0 : decode m_W_text.2.1 0 = .ok (.aload_n 1, 1) := by decide +kernel
theorem d_W_text_1 : decode m_W_text.2.1 1 = .ok (.iconst 0, 1) := by decide +kernel
theorem d_W_text_2 : decode m_W_text.2.1 2 = .ok (.aload_n 0, 1) := by decide +kernel
theorem d_W_text_3 : decode m_W_text.2.1 3 = .ok (.invokevirtual 22, 3) := by decide +kernel
theorem d_W_text_6 : decode m_W_text.2.1 6 = .ok (.i2l, 1) := by decide +kernel
theorem d_W_text_7 : decode m_W_text.2.1 7 = .ok (.lastore, 1) := by decide +kernel
theorem d_W_text_8 : decode m_W_text.2.1 8 = .ok (.goto 6, 3) := by decide +kernel
theorem d_W_text_11 : decode m_W_text.2.1 11 = .ok (.astore_n 2, 1) := by decide +kernel
theorem d_W_text_12 : decode m_W_text.2.1 12 = .ok (.iconst 1, 1) := by decide +kernel
theorem d_W_text_13 : decode m_W_text.2.1 13 = .ok (.ireturn, 1) := by decide +kernel
theorem d_W_text_14 : decode m_W_text.2.1 14 = .ok (.iconst 0, 1) := by decide +kernel
theorem d_W_text_15 : decode m_W_text.2.1 15 = .ok (.ireturn, 1) := by decide +kernel
theorem d_W_parse_0 : decode m_W_parse.2.1 0 = .ok (.aload_n 1, 1) := by decide +kernel
theorem d_W_parse_1 : decode m_W_parse.2.1 1 = .ok (.iconst 0, 1) := by decide +kernel
theorem d_W_parse_2 : decode m_W_parse.2.1 2 = .ok (.aload_n 0, 1) := by decide +kernel
theorem d_W_parse_3 : decode m_W_parse.2.1 3 = .ok (.invokevirtual 25, 3) := by decide +kernel
theorem d_W_parse_6 : decode m_W_parse.2.1 6 = .ok (.i2l, 1) := by decide +kernel
theorem d_W_parse_7 : decode m_W_parse.2.1 7 = .ok (.lastore, 1) := by decide +kernel
theorem d_W_parse_8 : decode m_W_parse.2.1 8 = .ok (.goto 6, 3) := by decide +kernel
theorem d_W_parse_11 : decode m_W_parse.2.1 11 = .ok (.astore_n 2, 1) := by decide +kernel
theorem d_W_parse_12 : decode m_W_parse.2.1 12 = .ok (.iconst 1, 1) := by decide +kernel
theorem d_W_parse_13 : decode m_W_parse.2.1 13 = .ok (.ireturn, 1) := by decide +kernel
theorem d_W_parse_14 : decode m_W_parse.2.1 14 = .ok (.iconst 0, 1) := by decide +kernel
theorem d_W_parse_15 : decode m_W_parse.2.1 15 = .ok (.ireturn, 1) := by decide +kernel
theorem d_W_repair_0 : decode m_W_repair.2.1 0 = .ok (.aload_n 2, 1) := by decide +kernel
theorem d_W_repair_1 : decode m_W_repair.2.1 1 = .ok (.iconst 0, 1) := by decide +kernel
theorem d_W_repair_2 : decode m_W_repair.2.1 2 = .ok (.aload_n 0, 1) := by decide +kernel
theorem d_W_repair_3 : decode m_W_repair.2.1 3 = .ok (.iload_n 1, 1) := by decide +kernel
theorem d_W_repair_4 : decode m_W_repair.2.1 4 = .ok (.invokevirtual 28, 3) := by decide +kernel
theorem d_W_repair_7 : decode m_W_repair.2.1 7 = .ok (.i2l, 1) := by decide +kernel
theorem d_W_repair_8 : decode m_W_repair.2.1 8 = .ok (.lastore, 1) := by decide +kernel
theorem d_W_repair_9 : decode m_W_repair.2.1 9 = .ok (.goto 12, 3) := by decide +kernel
theorem d_W_repair_12 : decode m_W_repair.2.1 12 = .ok (.astore_n 3, 1) := by decide +kernel
theorem d_W_repair_13 : decode m_W_repair.2.1 13 = .ok (.iconst 1, 1) := by decide +kernel
theorem d_W_repair_14 : decode m_W_repair.2.1 14 = .ok (.ireturn, 1) := by decide +kernel
theorem d_W_repair_15 : decode m_W_repair.2.1 15 = .ok (.astore_n 3, 1) := by decide +kernel
theorem d_W_repair_16 : decode m_W_repair.2.1 16 = .ok (.iconst 2, 1) := by decide +kernel
theorem d_W_repair_17 : decode m_W_repair.2.1 17 = .ok (.ireturn, 1) := by decide +kernel
theorem d_W_repair_18 : decode m_W_repair.2.1 18 = .ok (.astore_n 3, 1) := by decide +kernel
theorem d_W_repair_19 : decode m_W_repair.2.1 19 = .ok (.iconst 3, 1) := by decide +kernel
theorem d_W_repair_20 : decode m_W_repair.2.1 20 = .ok (.ireturn, 1) := by decide +kernel
theorem d_W_repair_21 : decode m_W_repair.2.1 21 = .ok (.iconst 0, 1) := by decide +kernel
theorem d_W_repair_22 : decode m_W_repair.2.1 22 = .ok (.ireturn, 1) := by decide +kernel
theorem d_W_reach_0 : decode m_W_reach.2.1 0 = .ok (.aload_n 2, 1) := by decide +kernel
theorem d_W_reach_1 : decode m_W_reach.2.1 1 = .ok (.iconst 0, 1) := by decide +kernel
theorem d_W_reach_2 : decode m_W_reach.2.1 2 = .ok (.aload_n 0, 1) := by decide +kernel
theorem d_W_reach_3 : decode m_W_reach.2.1 3 = .ok (.iload_n 1, 1) := by decide +kernel
theorem d_W_reach_4 : decode m_W_reach.2.1 4 = .ok (.invokevirtual 32, 3) := by decide +kernel
theorem d_W_reach_7 : decode m_W_reach.2.1 7 = .ok (.i2l, 1) := by decide +kernel
theorem d_W_reach_8 : decode m_W_reach.2.1 8 = .ok (.lastore, 1) := by decide +kernel
theorem d_W_reach_9 : decode m_W_reach.2.1 9 = .ok (.goto 6, 3) := by decide +kernel
theorem d_W_reach_12 : decode m_W_reach.2.1 12 = .ok (.astore_n 3, 1) := by decide +kernel
theorem d_W_reach_13 : decode m_W_reach.2.1 13 = .ok (.iconst 1, 1) := by decide +kernel
theorem d_W_reach_14 : decode m_W_reach.2.1 14 = .ok (.ireturn, 1) := by decide +kernel
theorem d_W_reach_15 : decode m_W_reach.2.1 15 = .ok (.iconst 0, 1) := by decide +kernel
theorem d_W_reach_16 : decode m_W_reach.2.1 16 = .ok (.ireturn, 1) := by decide +kernel
theorem d_W_apply_0 : decode m_W_apply.2.1 0 = .ok (.aload_n 2, 1) := by decide +kernel
theorem d_W_apply_1 : decode m_W_apply.2.1 1 = .ok (.iconst 0, 1) := by decide +kernel
theorem d_W_apply_2 : decode m_W_apply.2.1 2 = .ok (.aload_n 0, 1) := by decide +kernel
theorem d_W_apply_3 : decode m_W_apply.2.1 3 = .ok (.iload_n 1, 1) := by decide +kernel
theorem d_W_apply_4 : decode m_W_apply.2.1 4 = .ok (.invokevirtual 37, 3) := by decide +kernel
theorem d_W_apply_7 : decode m_W_apply.2.1 7 = .ok (.i2l, 1) := by decide +kernel
theorem d_W_apply_8 : decode m_W_apply.2.1 8 = .ok (.lastore, 1) := by decide +kernel
theorem d_W_apply_9 : decode m_W_apply.2.1 9 = .ok (.goto 9, 3) := by decide +kernel
theorem d_W_apply_12 : decode m_W_apply.2.1 12 = .ok (.astore_n 3, 1) := by decide +kernel
theorem d_W_apply_13 : decode m_W_apply.2.1 13 = .ok (.iconst 1, 1) := by decide +kernel
theorem d_W_apply_14 : decode m_W_apply.2.1 14 = .ok (.ireturn, 1) := by decide +kernel
theorem d_W_apply_15 : decode m_W_apply.2.1 15 = .ok (.astore_n 3, 1) := by decide +kernel
theorem d_W_apply_16 : decode m_W_apply.2.1 16 = .ok (.iconst 2, 1) := by decide +kernel
theorem d_W_apply_17 : decode m_W_apply.2.1 17 = .ok (.ireturn, 1) := by decide +kernel
theorem d_W_apply_18 : decode m_W_apply.2.1 18 = .ok (.iconst 0, 1) := by decide +kernel
theorem d_W_apply_19 : decode m_W_apply.2.1 19 = .ok (.ireturn, 1) := by decide +kernel
theorem d_L_0 : decode m_L.2.1 0 = .ok (.new 8, 3) := by decide +kernel
theorem d_L_3 : decode m_L.2.1 3 = .ok (.dup, 1) := by decide +kernel
theorem d_L_4 : decode m_L.2.1 4 = .ok (.invokespecial 40, 3) := by decide +kernel
theorem d_L_7 : decode m_L.2.1 7 = .ok (.astore_n 1, 1) := by decide +kernel
theorem d_L_8 : decode m_L.2.1 8 = .ok (.new 41, 3) := by decide +kernel
theorem d_L_11 : decode m_L.2.1 11 = .ok (.dup, 1) := by decide +kernel
theorem d_L_12 : decode m_L.2.1 12 = .ok (.invokespecial 43, 3) := by decide +kernel
theorem d_L_15 : decode m_L.2.1 15 = .ok (.astore_n 2, 1) := by decide +kernel
theorem d_L_16 : decode m_L.2.1 16 = .ok (.iconst 1, 1) := by decide +kernel
theorem d_L_17 : decode m_L.2.1 17 = .ok (.newarray .long, 2) := by decide +kernel
theorem d_L_19 : decode m_L.2.1 19 = .ok (.astore_n 3, 1) := by decide +kernel
theorem d_L_20 : decode m_L.2.1 20 = .ok (.iconst 0, 1) := by decide +kernel
theorem d_L_21 : decode m_L.2.1 21 = .ok (.istore 4, 2) := by decide +kernel
theorem d_L_23 : decode m_L.2.1 23 = .ok (.iload 4, 2) := by decide +kernel
theorem d_L_25 : decode m_L.2.1 25 = .ok (.aload_n 0, 1) := by decide +kernel
theorem d_L_26 : decode m_L.2.1 26 = .ok (.arraylength, 1) := by decide +kernel
theorem d_L_27 : decode m_L.2.1 27 = .ok (.iconst 4, 1) := by decide +kernel
theorem d_L_28 : decode m_L.2.1 28 = .ok (.isub, 1) := by decide +kernel
theorem d_L_29 : decode m_L.2.1 29 = .ok (.if_icmp .gt 617, 3) := by decide +kernel
theorem d_L_32 : decode m_L.2.1 32 = .ok (.aload_n 0, 1) := by decide +kernel
theorem d_L_33 : decode m_L.2.1 33 = .ok (.iload 4, 2) := by decide +kernel
theorem d_L_35 : decode m_L.2.1 35 = .ok (.iaload, 1) := by decide +kernel
theorem d_L_36 : decode m_L.2.1 36 = .ok (.bipush 15, 2) := by decide +kernel
theorem d_L_38 : decode m_L.2.1 38 = .ok (.iand, 1) := by decide +kernel
theorem d_L_39 : decode m_L.2.1 39 = .ok (.tableswitch 601 0 12 #[65, 92, 136, 180, 224, 289, 333, 389, 426, 439, 495, 551, 576], 65) := by decide +kernel
theorem d_L_104 : decode m_L.2.1 104 = .ok (.aload_n 1, 1) := by decide +kernel
theorem d_L_105 : decode m_L.2.1 105 = .ok (.aload_n 0, 1) := by decide +kernel
theorem d_L_106 : decode m_L.2.1 106 = .ok (.iload 4, 2) := by decide +kernel
theorem d_L_108 : decode m_L.2.1 108 = .ok (.iconst 1, 1) := by decide +kernel
theorem d_L_109 : decode m_L.2.1 109 = .ok (.iadd, 1) := by decide +kernel
theorem d_L_110 : decode m_L.2.1 110 = .ok (.iaload, 1) := by decide +kernel
theorem d_L_111 : decode m_L.2.1 111 = .ok (.i2c, 1) := by decide +kernel
theorem d_L_112 : decode m_L.2.1 112 = .ok (.invokevirtual 44, 3) := by decide +kernel
theorem d_L_115 : decode m_L.2.1 115 = .ok (.aload_n 2, 1) := by decide +kernel
theorem d_L_116 : decode m_L.2.1 116 = .ok (.aload_n 0, 1) := by decide +kernel
theorem d_L_117 : decode m_L.2.1 117 = .ok (.iload 4, 2) := by decide +kernel
theorem d_L_119 : decode m_L.2.1 119 = .ok (.iconst 1, 1) := by decide +kernel
theorem d_L_120 : decode m_L.2.1 120 = .ok (.iadd, 1) := by decide +kernel
theorem d_L_121 : decode m_L.2.1 121 = .ok (.iaload, 1) := by decide +kernel
theorem d_L_122 : decode m_L.2.1 122 = .ok (.i2c, 1) := by decide +kernel
theorem d_L_123 : decode m_L.2.1 123 = .ok (.invokevirtual 48, 3) := by decide +kernel
theorem d_L_126 : decode m_L.2.1 126 = .ok (.if_icmp .eq 514, 3) := by decide +kernel
theorem d_L_129 : decode m_L.2.1 129 = .ok (.iconst 0, 1) := by decide +kernel
theorem d_L_130 : decode m_L.2.1 130 = .ok (.ireturn, 1) := by decide +kernel
theorem d_L_131 : decode m_L.2.1 131 = .ok (.aload_n 1, 1) := by decide +kernel
theorem d_L_132 : decode m_L.2.1 132 = .ok (.aload_n 3, 1) := by decide +kernel
theorem d_L_133 : decode m_L.2.1 133 = .ok (.invokestatic 49, 3) := by decide +kernel
theorem d_L_136 : decode m_L.2.1 136 = .ok (.istore 5, 2) := by decide +kernel
theorem d_L_138 : decode m_L.2.1 138 = .ok (.aload_n 2, 1) := by decide +kernel
theorem d_L_139 : decode m_L.2.1 139 = .ok (.invokevirtual 54, 3) := by decide +kernel
theorem d_L_142 : decode m_L.2.1 142 = .ok (.istore 6, 2) := by decide +kernel
theorem d_L_144 : decode m_L.2.1 144 = .ok (.aload_n 2, 1) := by decide +kernel
theorem d_L_145 : decode m_L.2.1 145 = .ok (.invokevirtual 55, 3) := by decide +kernel
theorem d_L_148 : decode m_L.2.1 148 = .ok (.iload 5, 2) := by decide +kernel
theorem d_L_150 : decode m_L.2.1 150 = .ok (.if_icmp .eq 5, 3) := by decide +kernel
theorem d_L_153 : decode m_L.2.1 153 = .ok (.iconst 0, 1) := by decide +kernel
theorem d_L_154 : decode m_L.2.1 154 = .ok (.ireturn, 1) := by decide +kernel
theorem d_L_155 : decode m_L.2.1 155 = .ok (.iload 5, 2) := by decide +kernel
theorem d_L_157 : decode m_L.2.1 157 = .ok (.ifCond .ne 15, 3) := by decide +kernel
theorem d_L_160 : decode m_L.2.1 160 = .ok (.aload_n 3, 1) := by decide +kernel
theorem d_L_161 : decode m_L.2.1 161 = .ok (.iconst 0, 1) := by decide +kernel
theorem d_L_162 : decode m_L.2.1 162 = .ok (.laload, 1) := by decide +kernel
theorem d_L_163 : decode m_L.2.1 163 = .ok (.iload 6, 2) := by decide +kernel
theorem d_L_165 : decode m_L.2.1 165 = .ok (.i2l, 1) := by decide +kernel
theorem d_L_166 : decode m_L.2.1 166 = .ok (.lcmp, 1) := by decide +kernel
theorem d_L_167 : decode m_L.2.1 167 = .ok (.ifCond .eq 5, 3) := by decide +kernel
theorem d_L_170 : decode m_L.2.1 170 = .ok (.iconst 0, 1) := by decide +kernel
theorem d_L_171 : decode m_L.2.1 171 = .ok (.ireturn, 1) := by decide +kernel
theorem d_L_172 : decode m_L.2.1 172 = .ok (.goto 468, 3) := by decide +kernel
theorem d_L_175 : decode m_L.2.1 175 = .ok (.aload_n 1, 1) := by decide +kernel
theorem d_L_176 : decode m_L.2.1 176 = .ok (.aload_n 3, 1) := by decide +kernel
theorem d_L_177 : decode m_L.2.1 177 = .ok (.invokestatic 58, 3) := by decide +kernel
theorem d_L_180 : decode m_L.2.1 180 = .ok (.istore 5, 2) := by decide +kernel
theorem d_L_182 : decode m_L.2.1 182 = .ok (.aload_n 2, 1) := by decide +kernel
theorem d_L_183 : decode m_L.2.1 183 = .ok (.invokevirtual 60, 3) := by decide +kernel
theorem d_L_186 : decode m_L.2.1 186 = .ok (.istore 6, 2) := by decide +kernel
theorem d_L_188 : decode m_L.2.1 188 = .ok (.aload_n 2, 1) := by decide +kernel
theorem d_L_189 : decode m_L.2.1 189 = .ok (.invokevirtual 55, 3) := by decide +kernel
theorem d_L_192 : decode m_L.2.1 192 = .ok (.iload 5, 2) := by decide +kernel
theorem d_L_194 : decode m_L.2.1 194 = .ok (.if_icmp .eq 5, 3) := by decide +kernel
theorem d_L_197 : decode m_L.2.1 197 = .ok (.iconst 0, 1) := by decide +kernel
theorem d_L_198 : decode m_L.2.1 198 = .ok (.ireturn, 1) := by decide +kernel
theorem d_L_199 : decode m_L.2.1 199 = .ok (.iload 5, 2) := by decide +kernel
theorem d_L_201 : decode m_L.2.1 201 = .ok (.ifCond .ne 15, 3) := by decide +kernel
theorem d_L_204 : decode m_L.2.1 204 = .ok (.aload_n 3, 1) := by decide +kernel
theorem d_L_205 : decode m_L.2.1 205 = .ok (.iconst 0, 1) := by decide +kernel
theorem d_L_206 : decode m_L.2.1 206 = .ok (.laload, 1) := by decide +kernel
theorem d_L_207 : decode m_L.2.1 207 = .ok (.iload 6, 2) := by decide +kernel
theorem d_L_209 : decode m_L.2.1 209 = .ok (.i2l, 1) := by decide +kernel
theorem d_L_210 : decode m_L.2.1 210 = .ok (.lcmp, 1) := by decide +kernel
theorem d_L_211 : decode m_L.2.1 211 = .ok (.ifCond .eq 5, 3) := by decide +kernel
theorem d_L_214 : decode m_L.2.1 214 = .ok (.iconst 0, 1) := by decide +kernel
theorem d_L_215 : decode m_L.2.1 215 = .ok (.ireturn, 1) := by decide +kernel
theorem d_L_216 : decode m_L.2.1 216 = .ok (.goto 424, 3) := by decide +kernel
theorem d_L_219 : decode m_L.2.1 219 = .ok (.aload_n 1, 1) := by decide +kernel
theorem d_L_220 : decode m_L.2.1 220 = .ok (.aload_n 3, 1) := by decide +kernel
theorem d_L_221 : decode m_L.2.1 221 = .ok (.invokestatic 61, 3) := by decide +kernel
theorem d_L_224 : decode m_L.2.1 224 = .ok (.istore 5, 2) := by decide +kernel
theorem d_L_226 : decode m_L.2.1 226 = .ok (.aload_n 2, 1) := by decide +kernel
theorem d_L_227 : decode m_L.2.1 227 = .ok (.invokevirtual 63, 3) := by decide +kernel
theorem d_L_230 : decode m_L.2.1 230 = .ok (.istore 6, 2) := by decide +kernel
theorem d_L_232 : decode m_L.2.1 232 = .ok (.aload_n 2, 1) := by decide +kernel
theorem d_L_233 : decode m_L.2.1 233 = .ok (.invokevirtual 55, 3) := by decide +kernel
theorem d_L_236 : decode m_L.2.1 236 = .ok (.iload 5, 2) := by decide +kernel
theorem d_L_238 : decode m_L.2.1 238 = .ok (.if_icmp .eq 5, 3) := by decide +kernel
theorem d_L_241 : decode m_L.2.1 241 = .ok (.iconst 0, 1) := by decide +kernel
theorem d_L_242 : decode m_L.2.1 242 = .ok (.ireturn, 1) := by decide +kernel
theorem d_L_243 : decode m_L.2.1 243 = .ok (.iload 5, 2) := by decide +kernel
theorem d_L_245 : decode m_L.2.1 245 = .ok (.ifCond .ne 15, 3) := by decide +kernel
theorem d_L_248 : decode m_L.2.1 248 = .ok (.aload_n 3, 1) := by decide +kernel
theorem d_L_249 : decode m_L.2.1 249 = .ok (.iconst 0, 1) := by decide +kernel
theorem d_L_250 : decode m_L.2.1 250 = .ok (.laload, 1) := by decide +kernel
theorem d_L_251 : decode m_L.2.1 251 = .ok (.iload 6, 2) := by decide +kernel
theorem d_L_253 : decode m_L.2.1 253 = .ok (.i2l, 1) := by decide +kernel
theorem d_L_254 : decode m_L.2.1 254 = .ok (.lcmp, 1) := by decide +kernel
theorem d_L_255 : decode m_L.2.1 255 = .ok (.ifCond .eq 5, 3) := by decide +kernel
theorem d_L_258 : decode m_L.2.1 258 = .ok (.iconst 0, 1) := by decide +kernel
theorem d_L_259 : decode m_L.2.1 259 = .ok (.ireturn, 1) := by decide +kernel
theorem d_L_260 : decode m_L.2.1 260 = .ok (.goto 380, 3) := by decide +kernel
theorem d_L_263 : decode m_L.2.1 263 = .ok (.aload_n 1, 1) := by decide +kernel
theorem d_L_264 : decode m_L.2.1 264 = .ok (.aload_n 0, 1) := by decide +kernel
theorem d_L_265 : decode m_L.2.1 265 = .ok (.iload 4, 2) := by decide +kernel
theorem d_L_267 : decode m_L.2.1 267 = .ok (.iconst 1, 1) := by decide +kernel
theorem d_L_268 : decode m_L.2.1 268 = .ok (.iadd, 1) := by decide +kernel
theorem d_L_269 : decode m_L.2.1 269 = .ok (.iaload, 1) := by decide +kernel
theorem d_L_270 : decode m_L.2.1 270 = .ok (.aload_n 0, 1) := by decide +kernel
theorem d_L_271 : decode m_L.2.1 271 = .ok (.iload 4, 2) := by decide +kernel
theorem d_L_273 : decode m_L.2.1 273 = .ok (.iconst 2, 1) := by decide +kernel
theorem d_L_274 : decode m_L.2.1 274 = .ok (.iadd, 1) := by decide +kernel
theorem d_L_275 : decode m_L.2.1 275 = .ok (.iaload, 1) := by decide +kernel
theorem d_L_276 : decode m_L.2.1 276 = .ok (.ifCond .eq 7, 3) := by decide +kernel
theorem d_L_279 : decode m_L.2.1 279 = .ok (.iconst 1, 1) := by decide +kernel
theorem d_L_280 : decode m_L.2.1 280 = .ok (.goto 4, 3) := by decide +kernel
theorem d_L_283 : decode m_L.2.1 283 = .ok (.iconst 0, 1) := by decide +kernel
theorem d_L_284 : decode m_L.2.1 284 = .ok (.aload_n 0, 1) := by decide +kernel
theorem d_L_285 : decode m_L.2.1 285 = .ok (.iload 4, 2) := by decide +kernel
theorem d_L_287 : decode m_L.2.1 287 = .ok (.iconst 3, 1) := by decide +kernel
theorem d_L_288 : decode m_L.2.1 288 = .ok (.iadd, 1) := by decide +kernel
theorem d_L_289 : decode m_L.2.1 289 = .ok (.iaload, 1) := by decide +kernel
theorem d_L_290 : decode m_L.2.1 290 = .ok (.invokevirtual 64, 3) := by decide +kernel
theorem d_L_293 : decode m_L.2.1 293 = .ok (.aload_n 2, 1) := by decide +kernel
theorem d_L_294 : decode m_L.2.1 294 = .ok (.aload_n 0, 1) := by decide +kernel
theorem d_L_295 : decode m_L.2.1 295 = .ok (.iload 4, 2) := by decide +kernel
theorem d_L_297 : decode m_L.2.1 297 = .ok (.iconst 1, 1) := by decide +kernel
theorem d_L_298 : decode m_L.2.1 298 = .ok (.iadd, 1) := by decide +kernel
theorem d_L_299 : decode m_L.2.1 299 = .ok (.iaload, 1) := by decide +kernel
theorem d_L_300 : decode m_L.2.1 300 = .ok (.aload_n 0, 1) := by decide +kernel
theorem d_L_301 : decode m_L.2.1 301 = .ok (.iload 4, 2) := by decide +kernel
theorem d_L_303 : decode m_L.2.1 303 = .ok (.iconst 2, 1) := by decide +kernel
theorem d_L_304 : decode m_L.2.1 304 = .ok (.iadd, 1) := by decide +kernel
theorem d_L_305 : decode m_L.2.1 305 = .ok (.iaload, 1) := by decide +kernel
theorem d_L_306 : decode m_L.2.1 306 = .ok (.ifCond .eq 7, 3) := by decide +kernel
theorem d_L_309 : decode m_L.2.1 309 = .ok (.iconst 1, 1) := by decide +kernel
theorem d_L_310 : decode m_L.2.1 310 = .ok (.goto 4, 3) := by decide +kernel
theorem d_L_313 : decode m_L.2.1 313 = .ok (.iconst 0, 1) := by decide +kernel
theorem d_L_314 : decode m_L.2.1 314 = .ok (.aload_n 0, 1) := by decide +kernel
theorem d_L_315 : decode m_L.2.1 315 = .ok (.iload 4, 2) := by decide +kernel
theorem d_L_317 : decode m_L.2.1 317 = .ok (.iconst 3, 1) := by decide +kernel
theorem d_L_318 : decode m_L.2.1 318 = .ok (.iadd, 1) := by decide +kernel
theorem d_L_319 : decode m_L.2.1 319 = .ok (.iaload, 1) := by decide +kernel
theorem d_L_320 : decode m_L.2.1 320 = .ok (.invokevirtual 68, 3) := by decide +kernel
theorem d_L_323 : decode m_L.2.1 323 = .ok (.if_icmp .eq 317, 3) := by decide +kernel
theorem d_L_326 : decode m_L.2.1 326 = .ok (.iconst 0, 1) := by decide +kernel
theorem d_L_327 : decode m_L.2.1 327 = .ok (.ireturn, 1) := by decide +kernel
theorem d_L_328 : decode m_L.2.1 328 = .ok (.aload_n 1, 1) := by decide +kernel
theorem d_L_329 : decode m_L.2.1 329 = .ok (.aload_n 3, 1) := by decide +kernel
theorem d_L_330 : decode m_L.2.1 330 = .ok (.invokestatic 69, 3) := by decide +kernel
theorem d_L_333 : decode m_L.2.1 333 = .ok (.istore 5, 2) := by decide +kernel
theorem d_L_335 : decode m_L.2.1 335 = .ok (.aload_n 2, 1) := by decide +kernel
theorem d_L_336 : decode m_L.2.1 336 = .ok (.invokevirtual 71, 3) := by decide +kernel
theorem d_L_339 : decode m_L.2.1 339 = .ok (.istore 6, 2) := by decide +kernel
theorem d_L_341 : decode m_L.2.1 341 = .ok (.aload_n 2, 1) := by decide +kernel
theorem d_L_342 : decode m_L.2.1 342 = .ok (.invokevirtual 55, 3) := by decide +kernel
theorem d_L_345 : decode m_L.2.1 345 = .ok (.iload 5, 2) := by decide +kernel
theorem d_L_347 : decode m_L.2.1 347 = .ok (.if_icmp .eq 5, 3) := by decide +kernel
theorem d_L_350 : decode m_L.2.1 350 = .ok (.iconst 0, 1) := by decide +kernel
theorem d_L_351 : decode m_L.2.1 351 = .ok (.ireturn, 1) := by decide +kernel
theorem d_L_352 : decode m_L.2.1 352 = .ok (.iload 5, 2) := by decide +kernel
theorem d_L_354 : decode m_L.2.1 354 = .ok (.ifCond .ne 15, 3) := by decide +kernel
theorem d_L_357 : decode m_L.2.1 357 = .ok (.aload_n 3, 1) := by decide +kernel
theorem d_L_358 : decode m_L.2.1 358 = .ok (.iconst 0, 1) := by decide +kernel
theorem d_L_359 : decode m_L.2.1 359 = .ok (.laload, 1) := by decide +kernel
theorem d_L_360 : decode m_L.2.1 360 = .ok (.iload 6, 2) := by decide +kernel
theorem d_L_362 : decode m_L.2.1 362 = .ok (.i2l, 1) := by decide +kernel
theorem d_L_363 : decode m_L.2.1 363 = .ok (.lcmp, 1) := by decide +kernel
theorem d_L_364 : decode m_L.2.1 364 = .ok (.ifCond .eq 5, 3) := by decide +kernel
theorem d_L_367 : decode m_L.2.1 367 = .ok (.iconst 0, 1) := by decide +kernel
theorem d_L_368 : decode m_L.2.1 368 = .ok (.ireturn, 1) := by decide +kernel
theorem d_L_369 : decode m_L.2.1 369 = .ok (.goto 271, 3) := by decide +kernel
theorem d_L_372 : decode m_L.2.1 372 = .ok (.aload_n 1, 1) := by decide +kernel
theorem d_L_373 : decode m_L.2.1 373 = .ok (.aload_n 0, 1) := by decide +kernel
theorem d_L_374 : decode m_L.2.1 374 = .ok (.iload 4, 2) := by decide +kernel
theorem d_L_376 : decode m_L.2.1 376 = .ok (.iconst 1, 1) := by decide +kernel
theorem d_L_377 : decode m_L.2.1 377 = .ok (.iadd, 1) := by decide +kernel
theorem d_L_378 : decode m_L.2.1 378 = .ok (.iaload, 1) := by decide +kernel
theorem d_L_379 : decode m_L.2.1 379 = .ok (.aload_n 3, 1) := by decide +kernel
theorem d_L_380 : decode m_L.2.1 380 = .ok (.invokestatic 72, 3) := by decide +kernel
theorem d_L_383 : decode m_L.2.1 383 = .ok (.istore 5, 2) := by decide +kernel
theorem d_L_385 : decode m_L.2.1 385 = .ok (.aload_n 2, 1) := by decide +kernel
theorem d_L_386 : decode m_L.2.1 386 = .ok (.aload_n 0, 1) := by decide +kernel
theorem d_L_387 : decode m_L.2.1 387 = .ok (.iload 4, 2) := by decide +kernel
theorem d_L_389 : decode m_L.2.1 389 = .ok (.iconst 1, 1) := by decide +kernel
theorem d_L_390 : decode m_L.2.1 390 = .ok (.iadd, 1) := by decide +kernel
theorem d_L_391 : decode m_L.2.1 391 = .ok (.iaload, 1) := by decide +kernel
theorem d_L_392 : decode m_L.2.1 392 = .ok (.invokevirtual 75, 3) := by decide +kernel
theorem d_L_395 : decode m_L.2.1 395 = .ok (.istore 6, 2) := by decide +kernel
theorem d_L_397 : decode m_L.2.1 397 = .ok (.aload_n 2, 1) := by decide +kernel
theorem d_L_398 : decode m_L.2.1 398 = .ok (.invokevirtual 55, 3) := by decide +kernel
theorem d_L_401 : decode m_L.2.1 401 = .ok (.iload 5, 2) := by decide +kernel
theorem d_L_403 : decode m_L.2.1 403 = .ok (.if_icmp .eq 5, 3) := by decide +kernel
theorem d_L_406 : decode m_L.2.1 406 = .ok (.iconst 0, 1) := by decide +kernel
theorem d_L_407 : decode m_L.2.1 407 = .ok (.ireturn, 1) := by decide +kernel
theorem d_L_408 : decode m_L.2.1 408 = .ok (.iload 5, 2) := by decide +kernel
theorem d_L_410 : decode m_L.2.1 410 = .ok (.ifCond .ne 15, 3) := by decide +kernel
theorem d_L_413 : decode m_L.2.1 413 = .ok (.aload_n 3, 1) := by decide +kernel
theorem d_L_414 : decode m_L.2.1 414 = .ok (.iconst 0, 1) := by decide +kernel
theorem d_L_415 : decode m_L.2.1 415 = .ok (.laload, 1) := by decide +kernel
theorem d_L_416 : decode m_L.2.1 416 = .ok (.iload 6, 2) := by decide +kernel
theorem d_L_418 : decode m_L.2.1 418 = .ok (.i2l, 1) := by decide +kernel
theorem d_L_419 : decode m_L.2.1 419 = .ok (.lcmp, 1) := by decide +kernel
theorem d_L_420 : decode m_L.2.1 420 = .ok (.ifCond .eq 5, 3) := by decide +kernel
theorem d_L_423 : decode m_L.2.1 423 = .ok (.iconst 0, 1) := by decide +kernel
theorem d_L_424 : decode m_L.2.1 424 = .ok (.ireturn, 1) := by decide +kernel
theorem d_L_425 : decode m_L.2.1 425 = .ok (.goto 215, 3) := by decide +kernel
theorem d_L_428 : decode m_L.2.1 428 = .ok (.aload_n 1, 1) := by decide +kernel
theorem d_L_429 : decode m_L.2.1 429 = .ok (.aload_n 0, 1) := by decide +kernel
theorem d_L_430 : decode m_L.2.1 430 = .ok (.iload 4, 2) := by decide +kernel
theorem d_L_432 : decode m_L.2.1 432 = .ok (.iconst 1, 1) := by decide +kernel
theorem d_L_433 : decode m_L.2.1 433 = .ok (.iadd, 1) := by decide +kernel
theorem d_L_434 : decode m_L.2.1 434 = .ok (.iaload, 1) := by decide +kernel
theorem d_L_435 : decode m_L.2.1 435 = .ok (.aload_n 0, 1) := by decide +kernel
theorem d_L_436 : decode m_L.2.1 436 = .ok (.iload 4, 2) := by decide +kernel
theorem d_L_438 : decode m_L.2.1 438 = .ok (.iconst 2, 1) := by decide +kernel
theorem d_L_439 : decode m_L.2.1 439 = .ok (.iadd, 1) := by decide +kernel
theorem d_L_440 : decode m_L.2.1 440 = .ok (.iaload, 1) := by decide +kernel
theorem d_L_441 : decode m_L.2.1 441 = .ok (.invokevirtual 76, 3) := by decide +kernel
theorem d_L_444 : decode m_L.2.1 444 = .ok (.aload_n 2, 1) := by decide +kernel
theorem d_L_445 : decode m_L.2.1 445 = .ok (.aload_n 0, 1) := by decide +kernel
theorem d_L_446 : decode m_L.2.1 446 = .ok (.iload 4, 2) := by decide +kernel
theorem d_L_448 : decode m_L.2.1 448 = .ok (.iconst 1, 1) := by decide +kernel
theorem d_L_449 : decode m_L.2.1 449 = .ok (.iadd, 1) := by decide +kernel
theorem d_L_450 : decode m_L.2.1 450 = .ok (.iaload, 1) := by decide +kernel
theorem d_L_451 : decode m_L.2.1 451 = .ok (.aload_n 0, 1) := by decide +kernel
theorem d_L_452 : decode m_L.2.1 452 = .ok (.iload 4, 2) := by decide +kernel
theorem d_L_454 : decode m_L.2.1 454 = .ok (.iconst 2, 1) := by decide +kernel
theorem d_L_455 : decode m_L.2.1 455 = .ok (.iadd, 1) := by decide +kernel
theorem d_L_456 : decode m_L.2.1 456 = .ok (.iaload, 1) := by decide +kernel
theorem d_L_457 : decode m_L.2.1 457 = .ok (.invokevirtual 80, 3) := by decide +kernel
theorem d_L_460 : decode m_L.2.1 460 = .ok (.if_icmp .eq 180, 3) := by decide +kernel
theorem d_L_463 : decode m_L.2.1 463 = .ok (.iconst 0, 1) := by decide +kernel
theorem d_L_464 : decode m_L.2.1 464 = .ok (.ireturn, 1) := by decide +kernel
theorem d_L_465 : decode m_L.2.1 465 = .ok (.aload_n 1, 1) := by decide +kernel
theorem d_L_466 : decode m_L.2.1 466 = .ok (.invokevirtual 81, 3) := by decide +kernel
theorem d_L_469 : decode m_L.2.1 469 = .ok (.aload_n 2, 1) := by decide +kernel
theorem d_L_470 : decode m_L.2.1 470 = .ok (.invokevirtual 84, 3) := by decide +kernel
theorem d_L_473 : decode m_L.2.1 473 = .ok (.if_icmp .eq 167, 3) := by decide +kernel
theorem d_L_476 : decode m_L.2.1 476 = .ok (.iconst 0, 1) := by decide +kernel
theorem d_L_477 : decode m_L.2.1 477 = .ok (.ireturn, 1) := by decide +kernel
theorem d_L_478 : decode m_L.2.1 478 = .ok (.aload_n 1, 1) := by decide +kernel
theorem d_L_479 : decode m_L.2.1 479 = .ok (.aload_n 0, 1) := by decide +kernel
theorem d_L_480 : decode m_L.2.1 480 = .ok (.iload 4, 2) := by decide +kernel
theorem d_L_482 : decode m_L.2.1 482 = .ok (.iconst 1, 1) := by decide +kernel
theorem d_L_483 : decode m_L.2.1 483 = .ok (.iadd, 1) := by decide +kernel
theorem d_L_484 : decode m_L.2.1 484 = .ok (.iaload, 1) := by decide +kernel
theorem d_L_485 : decode m_L.2.1 485 = .ok (.aload_n 3, 1) := by decide +kernel
theorem d_L_486 : decode m_L.2.1 486 = .ok (.invokestatic 85, 3) := by decide +kernel
theorem d_L_489 : decode m_L.2.1 489 = .ok (.istore 5, 2) := by decide +kernel
theorem d_L_491 : decode m_L.2.1 491 = .ok (.aload_n 2, 1) := by decide +kernel
theorem d_L_492 : decode m_L.2.1 492 = .ok (.aload_n 0, 1) := by decide +kernel
theorem d_L_493 : decode m_L.2.1 493 = .ok (.iload 4, 2) := by decide +kernel
theorem d_L_495 : decode m_L.2.1 495 = .ok (.iconst 1, 1) := by decide +kernel
theorem d_L_496 : decode m_L.2.1 496 = .ok (.iadd, 1) := by decide +kernel
theorem d_L_497 : decode m_L.2.1 497 = .ok (.iaload, 1) := by decide +kernel
theorem d_L_498 : decode m_L.2.1 498 = .ok (.invokevirtual 87, 3) := by decide +kernel
theorem d_L_501 : decode m_L.2.1 501 = .ok (.istore 6, 2) := by decide +kernel
theorem d_L_503 : decode m_L.2.1 503 = .ok (.aload_n 2, 1) := by decide +kernel
theorem d_L_504 : decode m_L.2.1 504 = .ok (.invokevirtual 55, 3) := by decide +kernel
theorem d_L_507 : decode m_L.2.1 507 = .ok (.iload 5, 2) := by decide +kernel
theorem d_L_509 : decode m_L.2.1 509 = .ok (.if_icmp .eq 5, 3) := by decide +kernel
theorem d_L_512 : decode m_L.2.1 512 = .ok (.iconst 0, 1) := by decide +kernel
theorem d_L_513 : decode m_L.2.1 513 = .ok (.ireturn, 1) := by decide +kernel
theorem d_L_514 : decode m_L.2.1 514 = .ok (.iload 5, 2) := by decide +kernel
theorem d_L_516 : decode m_L.2.1 516 = .ok (.ifCond .ne 15, 3) := by decide +kernel
theorem d_L_519 : decode m_L.2.1 519 = .ok (.aload_n 3, 1) := by decide +kernel
theorem d_L_520 : decode m_L.2.1 520 = .ok (.iconst 0, 1) := by decide +kernel
theorem d_L_521 : decode m_L.2.1 521 = .ok (.laload, 1) := by decide +kernel
theorem d_L_522 : decode m_L.2.1 522 = .ok (.iload 6, 2) := by decide +kernel
theorem d_L_524 : decode m_L.2.1 524 = .ok (.i2l, 1) := by decide +kernel
theorem d_L_525 : decode m_L.2.1 525 = .ok (.lcmp, 1) := by decide +kernel
theorem d_L_526 : decode m_L.2.1 526 = .ok (.ifCond .eq 5, 3) := by decide +kernel
theorem d_L_529 : decode m_L.2.1 529 = .ok (.iconst 0, 1) := by decide +kernel
theorem d_L_530 : decode m_L.2.1 530 = .ok (.ireturn, 1) := by decide +kernel
theorem d_L_531 : decode m_L.2.1 531 = .ok (.goto 109, 3) := by decide +kernel
theorem d_L_534 : decode m_L.2.1 534 = .ok (.aload_n 1, 1) := by decide +kernel
theorem d_L_535 : decode m_L.2.1 535 = .ok (.aload_n 0, 1) := by decide +kernel
theorem d_L_536 : decode m_L.2.1 536 = .ok (.iload 4, 2) := by decide +kernel
theorem d_L_538 : decode m_L.2.1 538 = .ok (.iconst 1, 1) := by decide +kernel
theorem d_L_539 : decode m_L.2.1 539 = .ok (.iadd, 1) := by decide +kernel
theorem d_L_540 : decode m_L.2.1 540 = .ok (.iaload, 1) := by decide +kernel
theorem d_L_541 : decode m_L.2.1 541 = .ok (.aload_n 3, 1) := by decide +kernel
theorem d_L_542 : decode m_L.2.1 542 = .ok (.invokestatic 88, 3) := by decide +kernel
theorem d_L_545 : decode m_L.2.1 545 = .ok (.istore 5, 2) := by decide +kernel
theorem d_L_547 : decode m_L.2.1 547 = .ok (.aload_n 2, 1) := by decide +kernel
theorem d_L_548 : decode m_L.2.1 548 = .ok (.aload_n 0, 1) := by decide +kernel
theorem d_L_549 : decode m_L.2.1 549 = .ok (.iload 4, 2) := by decide +kernel
theorem d_L_551 : decode m_L.2.1 551 = .ok (.iconst 1, 1) := by decide +kernel
theorem d_L_552 : decode m_L.2.1 552 = .ok (.iadd, 1) := by decide +kernel
theorem d_L_553 : decode m_L.2.1 553 = .ok (.iaload, 1) := by decide +kernel
theorem d_L_554 : decode m_L.2.1 554 = .ok (.invokevirtual 90, 3) := by decide +kernel
theorem d_L_557 : decode m_L.2.1 557 = .ok (.istore 6, 2) := by decide +kernel
theorem d_L_559 : decode m_L.2.1 559 = .ok (.aload_n 2, 1) := by decide +kernel
theorem d_L_560 : decode m_L.2.1 560 = .ok (.invokevirtual 55, 3) := by decide +kernel
theorem d_L_563 : decode m_L.2.1 563 = .ok (.iload 5, 2) := by decide +kernel
theorem d_L_565 : decode m_L.2.1 565 = .ok (.if_icmp .eq 5, 3) := by decide +kernel
theorem d_L_568 : decode m_L.2.1 568 = .ok (.iconst 0, 1) := by decide +kernel
theorem d_L_569 : decode m_L.2.1 569 = .ok (.ireturn, 1) := by decide +kernel
theorem d_L_570 : decode m_L.2.1 570 = .ok (.iload 5, 2) := by decide +kernel
theorem d_L_572 : decode m_L.2.1 572 = .ok (.ifCond .ne 15, 3) := by decide +kernel
theorem d_L_575 : decode m_L.2.1 575 = .ok (.aload_n 3, 1) := by decide +kernel
theorem d_L_576 : decode m_L.2.1 576 = .ok (.iconst 0, 1) := by decide +kernel
theorem d_L_577 : decode m_L.2.1 577 = .ok (.laload, 1) := by decide +kernel
theorem d_L_578 : decode m_L.2.1 578 = .ok (.iload 6, 2) := by decide +kernel
theorem d_L_580 : decode m_L.2.1 580 = .ok (.i2l, 1) := by decide +kernel
theorem d_L_581 : decode m_L.2.1 581 = .ok (.lcmp, 1) := by decide +kernel
theorem d_L_582 : decode m_L.2.1 582 = .ok (.ifCond .eq 5, 3) := by decide +kernel
theorem d_L_585 : decode m_L.2.1 585 = .ok (.iconst 0, 1) := by decide +kernel
theorem d_L_586 : decode m_L.2.1 586 = .ok (.ireturn, 1) := by decide +kernel
theorem d_L_587 : decode m_L.2.1 587 = .ok (.goto 53, 3) := by decide +kernel
theorem d_L_590 : decode m_L.2.1 590 = .ok (.aload_n 1, 1) := by decide +kernel
theorem d_L_591 : decode m_L.2.1 591 = .ok (.aload_n 0, 1) := by decide +kernel
theorem d_L_592 : decode m_L.2.1 592 = .ok (.iload 4, 2) := by decide +kernel
theorem d_L_594 : decode m_L.2.1 594 = .ok (.iconst 1, 1) := by decide +kernel
theorem d_L_595 : decode m_L.2.1 595 = .ok (.iadd, 1) := by decide +kernel
theorem d_L_596 : decode m_L.2.1 596 = .ok (.iaload, 1) := by decide +kernel
theorem d_L_597 : decode m_L.2.1 597 = .ok (.invokevirtual 91, 3) := by decide +kernel
theorem d_L_600 : decode m_L.2.1 600 = .ok (.aload_n 2, 1) := by decide +kernel
theorem d_L_601 : decode m_L.2.1 601 = .ok (.aload_n 0, 1) := by decide +kernel
theorem d_L_602 : decode m_L.2.1 602 = .ok (.iload 4, 2) := by decide +kernel
theorem d_L_604 : decode m_L.2.1 604 = .ok (.iconst 1, 1) := by decide +kernel
theorem d_L_605 : decode m_L.2.1 605 = .ok (.iadd, 1) := by decide +kernel
theorem d_L_606 : decode m_L.2.1 606 = .ok (.iaload, 1) := by decide +kernel
theorem d_L_607 : decode m_L.2.1 607 = .ok (.invokevirtual 94, 3) := by decide +kernel
theorem d_L_610 : decode m_L.2.1 610 = .ok (.if_icmp .eq 30, 3) := by decide +kernel
theorem d_L_613 : decode m_L.2.1 613 = .ok (.iconst 0, 1) := by decide +kernel
theorem d_L_614 : decode m_L.2.1 614 = .ok (.ireturn, 1) := by decide +kernel
theorem d_L_615 : decode m_L.2.1 615 = .ok (.aload_n 1, 1) := by decide +kernel
theorem d_L_616 : decode m_L.2.1 616 = .ok (.aload_n 0, 1) := by decide +kernel
theorem d_L_617 : decode m_L.2.1 617 = .ok (.iload 4, 2) := by decide +kernel
theorem d_L_619 : decode m_L.2.1 619 = .ok (.iconst 1, 1) := by decide +kernel
theorem d_L_620 : decode m_L.2.1 620 = .ok (.iadd, 1) := by decide +kernel
theorem d_L_621 : decode m_L.2.1 621 = .ok (.iaload, 1) := by decide +kernel
theorem d_L_622 : decode m_L.2.1 622 = .ok (.invokevirtual 95, 3) := by decide +kernel
theorem d_L_625 : decode m_L.2.1 625 = .ok (.aload_n 2, 1) := by decide +kernel
theorem d_L_626 : decode m_L.2.1 626 = .ok (.aload_n 0, 1) := by decide +kernel
theorem d_L_627 : decode m_L.2.1 627 = .ok (.iload 4, 2) := by decide +kernel
theorem d_L_629 : decode m_L.2.1 629 = .ok (.iconst 1, 1) := by decide +kernel
theorem d_L_630 : decode m_L.2.1 630 = .ok (.iadd, 1) := by decide +kernel
theorem d_L_631 : decode m_L.2.1 631 = .ok (.iaload, 1) := by decide +kernel
theorem d_L_632 : decode m_L.2.1 632 = .ok (.invokevirtual 98, 3) := by decide +kernel
theorem d_L_635 : decode m_L.2.1 635 = .ok (.if_icmp .eq 5, 3) := by decide +kernel
theorem d_L_638 : decode m_L.2.1 638 = .ok (.iconst 0, 1) := by decide +kernel
theorem d_L_639 : decode m_L.2.1 639 = .ok (.ireturn, 1) := by decide +kernel
theorem d_L_640 : decode m_L.2.1 640 = .ok (.iinc 4 4, 3) := by decide +kernel
theorem d_L_643 : decode m_L.2.1 643 = .ok (.goto (-620), 3) := by decide +kernel
theorem d_L_646 : decode m_L.2.1 646 = .ok (.iconst 1, 1) := by decide +kernel
theorem d_L_647 : decode m_L.2.1 647 = .ok (.ireturn, 1) := by decide +kernel
