/-! decode rows (printed by gen/names.py) -/
theorem d_S_size_0 : decode m_S_size.2.1 0 = .ok (.iconst 0, 1) := by decide +kernel
theorem d_S_size_1 : decode m_S_size.2.1 1 = .ok (.istore_n 1, 1) := by decide +kernel
theorem d_S_size_2 : decode m_S_size.2.1 2 = .ok (.iconst 0, 1) := by decide +kernel
theorem d_S_size_3 : decode m_S_size.2.1 3 = .ok (.istore_n 2, 1) := by decide +kernel
theorem d_S_size_4 : decode m_S_size.2.1 4 = .ok (.iload_n 2, 1) := by decide +kernel
theorem d_S_size_5 : decode m_S_size.2.1 5 = .ok (.sipush 448, 3) := by decide +kernel
theorem d_S_size_8 : decode m_S_size.2.1 8 = .ok (.if_icmp .ge 25, 3) := by decide +kernel
theorem d_S_size_11 : decode m_S_size.2.1 11 = .ok (.iload_n 1, 1) := by decide +kernel
theorem d_S_size_12 : decode m_S_size.2.1 12 = .ok (.aload_n 0, 1) := by decide +kernel
theorem d_S_size_13 : decode m_S_size.2.1 13 = .ok (.iload_n 2, 1) := by decide +kernel
theorem d_S_size_14 : decode m_S_size.2.1 14 = .ok (.invokevirtual 15, 3) := by decide +kernel
theorem d_S_size_17 : decode m_S_size.2.1 17 = .ok (.ifCond .eq 7, 3) := by decide +kernel
theorem d_S_size_20 : decode m_S_size.2.1 20 = .ok (.iconst 1, 1) := by decide +kernel
theorem d_S_size_21 : decode m_S_size.2.1 21 = .ok (.goto 4, 3) := by decide +kernel
theorem d_S_size_24 : decode m_S_size.2.1 24 = .ok (.iconst 0, 1) := by decide +kernel
theorem d_S_size_25 : decode m_S_size.2.1 25 = .ok (.iadd, 1) := by decide +kernel
theorem d_S_size_26 : decode m_S_size.2.1 26 = .ok (.istore_n 1, 1) := by decide +kernel
theorem d_S_size_27 : decode m_S_size.2.1 27 = .ok (.iinc 2 1, 3) := by decide +kernel
theorem d_S_size_30 : decode m_S_size.2.1 30 = .ok (.goto (-26), 3) := by decide +kernel
theorem d_S_size_33 : decode m_S_size.2.1 33 = .ok (.iload_n 1, 1) := by decide +kernel
theorem d_S_size_34 : decode m_S_size.2.1 34 = .ok (.ireturn, 1) := by decide +kernel
theorem d_D_text_0 : decode m_D_text.2.1 0 = .ok (.aload_n 0, 1) := by decide +kernel
theorem d_D_text_1 : decode m_D_text.2.1 1 = .ok (.invokevirtual 102, 3) := by decide +kernel
theorem d_D_text_4 : decode m_D_text.2.1 4 = .ok (.astore_n 1, 1) := by decide +kernel
theorem d_D_text_5 : decode m_D_text.2.1 5 = .ok (.aload_n 1, 1) := by decide +kernel
theorem d_D_text_6 : decode m_D_text.2.1 6 = .ok (.invokevirtual 105, 3) := by decide +kernel
theorem d_D_text_9 : decode m_D_text.2.1 9 = .ok (.bipush 8, 2) := by decide +kernel
theorem d_D_text_11 : decode m_D_text.2.1 11 = .ok (.if_icmp .gt 7, 3) := by decide +kernel
theorem d_D_text_14 : decode m_D_text.2.1 14 = .ok (.iconst 1, 1) := by decide +kernel
theorem d_D_text_15 : decode m_D_text.2.1 15 = .ok (.goto 4, 3) := by decide +kernel
theorem d_D_text_18 : decode m_D_text.2.1 18 = .ok (.iconst 0, 1) := by decide +kernel
theorem d_D_text_19 : decode m_D_text.2.1 19 = .ok (.istore_n 2, 1) := by decide +kernel
theorem d_D_text_20 : decode m_D_text.2.1 20 = .ok (.iconst 0, 1) := by decide +kernel
theorem d_D_text_21 : decode m_D_text.2.1 21 = .ok (.istore_n 3, 1) := by decide +kernel
theorem d_D_text_22 : decode m_D_text.2.1 22 = .ok (.iload_n 3, 1) := by decide +kernel
theorem d_D_text_23 : decode m_D_text.2.1 23 = .ok (.aload_n 1, 1) := by decide +kernel
theorem d_D_text_24 : decode m_D_text.2.1 24 = .ok (.invokevirtual 105, 3) := by decide +kernel
theorem d_D_text_27 : decode m_D_text.2.1 27 = .ok (.if_icmp .ge 22, 3) := by decide +kernel
theorem d_D_text_30 : decode m_D_text.2.1 30 = .ok (.iload_n 2, 1) := by decide +kernel
theorem d_D_text_31 : decode m_D_text.2.1 31 = .ok (.ifCond .eq 18, 3) := by decide +kernel
theorem d_D_text_34 : decode m_D_text.2.1 34 = .ok (.aload_n 1, 1) := by decide +kernel
theorem d_D_text_35 : decode m_D_text.2.1 35 = .ok (.iload_n 3, 1) := by decide +kernel
theorem d_D_text_36 : decode m_D_text.2.1 36 = .ok (.invokevirtual 108, 3) := by decide +kernel
theorem d_D_text_39 : decode m_D_text.2.1 39 = .ok (.invokestatic 120, 3) := by decide +kernel
theorem d_D_text_42 : decode m_D_text.2.1 42 = .ok (.istore_n 2, 1) := by decide +kernel
theorem d_D_text_43 : decode m_D_text.2.1 43 = .ok (.iinc 3 1, 3) := by decide +kernel
theorem d_D_text_46 : decode m_D_text.2.1 46 = .ok (.goto (-24), 3) := by decide +kernel
theorem d_D_text_49 : decode m_D_text.2.1 49 = .ok (.iload_n 2, 1) := by decide +kernel
theorem d_D_text_50 : decode m_D_text.2.1 50 = .ok (.invokestatic 116, 3) := by decide +kernel
theorem d_D_text_53 : decode m_D_text.2.1 53 = .ok (.aload_n 0, 1) := by decide +kernel
theorem d_D_text_54 : decode m_D_text.2.1 54 = .ok (.aload_n 1, 1) := by decide +kernel
theorem d_D_text_55 : decode m_D_text.2.1 55 = .ok (.invokevirtual 105, 3) := by decide +kernel
theorem d_D_text_58 : decode m_D_text.2.1 58 = .ok (.putfield 236, 3) := by decide +kernel
theorem d_D_text_61 : decode m_D_text.2.1 61 = .ok (.iconst 0, 1) := by decide +kernel
theorem d_D_text_62 : decode m_D_text.2.1 62 = .ok (.istore_n 3, 1) := by decide +kernel
theorem d_D_text_63 : decode m_D_text.2.1 63 = .ok (.iload_n 3, 1) := by decide +kernel
theorem d_D_text_64 : decode m_D_text.2.1 64 = .ok (.aload_n 0, 1) := by decide +kernel
theorem d_D_text_65 : decode m_D_text.2.1 65 = .ok (.getfield 236, 3) := by decide +kernel
theorem d_D_text_68 : decode m_D_text.2.1 68 = .ok (.if_icmp .ge 23, 3) := by decide +kernel
theorem d_D_text_71 : decode m_D_text.2.1 71 = .ok (.aload_n 0, 1) := by decide +kernel
theorem d_D_text_72 : decode m_D_text.2.1 72 = .ok (.getfield 32, 3) := by decide +kernel
theorem d_D_text_75 : decode m_D_text.2.1 75 = .ok (.iload_n 3, 1) := by decide +kernel
theorem d_D_text_76 : decode m_D_text.2.1 76 = .ok (.aload_n 1, 1) := by decide +kernel
theorem d_D_text_77 : decode m_D_text.2.1 77 = .ok (.iload_n 3, 1) := by decide +kernel
theorem d_D_text_78 : decode m_D_text.2.1 78 = .ok (.invokevirtual 108, 3) := by decide +kernel
theorem d_D_text_81 : decode m_D_text.2.1 81 = .ok (.bipush 97, 2) := by decide +kernel
theorem d_D_text_83 : decode m_D_text.2.1 83 = .ok (.isub, 1) := by decide +kernel
theorem d_D_text_84 : decode m_D_text.2.1 84 = .ok (.iastore, 1) := by decide +kernel
theorem d_D_text_85 : decode m_D_text.2.1 85 = .ok (.iinc 3 1, 3) := by decide +kernel
theorem d_D_text_88 : decode m_D_text.2.1 88 = .ok (.goto (-25), 3) := by decide +kernel
theorem d_D_text_91 : decode m_D_text.2.1 91 = .ok (.aload_n 0, 1) := by decide +kernel
theorem d_D_text_92 : decode m_D_text.2.1 92 = .ok (.invokevirtual 150, 3) := by decide +kernel
theorem d_D_text_95 : decode m_D_text.2.1 95 = .ok (.aload_n 0, 1) := by decide +kernel
theorem d_D_text_96 : decode m_D_text.2.1 96 = .ok (.getfield 236, 3) := by decide +kernel
theorem d_D_text_99 : decode m_D_text.2.1 99 = .ok (.ireturn, 1) := by decide +kernel
theorem d_D_parse_0 : decode m_D_parse.2.1 0 = .ok (.aload_n 0, 1) := by decide +kernel
theorem d_D_parse_1 : decode m_D_parse.2.1 1 = .ok (.getfield 146, 3) := by decide +kernel
theorem d_D_parse_4 : decode m_D_parse.2.1 4 = .ok (.invokestatic 139, 3) := by decide +kernel
theorem d_D_parse_7 : decode m_D_parse.2.1 7 = .ok (.aload_n 0, 1) := by decide +kernel
theorem d_D_parse_8 : decode m_D_parse.2.1 8 = .ok (.aload_n 0, 1) := by decide +kernel
theorem d_D_parse_9 : decode m_D_parse.2.1 9 = .ok (.getfield 32, 3) := by decide +kernel
theorem d_D_parse_12 : decode m_D_parse.2.1 12 = .ok (.aload_n 0, 1) := by decide +kernel
theorem d_D_parse_13 : decode m_D_parse.2.1 13 = .ok (.getfield 236, 3) := by decide +kernel
theorem d_D_parse_16 : decode m_D_parse.2.1 16 = .ok (.invokevirtual 238, 3) := by decide +kernel
theorem d_D_parse_19 : decode m_D_parse.2.1 19 = .ok (.ireturn, 1) := by decide +kernel
theorem d_D_wrong_0 : decode m_D_wrong.2.1 0 = .ok (.iconst 0, 1) := by decide +kernel
theorem d_D_wrong_1 : decode m_D_wrong.2.1 1 = .ok (.istore_n 3, 1) := by decide +kernel
theorem d_D_wrong_2 : decode m_D_wrong.2.1 2 = .ok (.iconst 0, 1) := by decide +kernel
theorem d_D_wrong_3 : decode m_D_wrong.2.1 3 = .ok (.istore 4, 2) := by decide +kernel
theorem d_D_wrong_5 : decode m_D_wrong.2.1 5 = .ok (.aload_n 0, 1) := by decide +kernel
theorem d_D_wrong_6 : decode m_D_wrong.2.1 6 = .ok (.getfield 53, 3) := by decide +kernel
theorem d_D_wrong_9 : decode m_D_wrong.2.1 9 = .ok (.iconst 0, 1) := by decide +kernel
theorem d_D_wrong_10 : decode m_D_wrong.2.1 10 = .ok (.iconst 0, 1) := by decide +kernel
theorem d_D_wrong_11 : decode m_D_wrong.2.1 11 = .ok (.iastore, 1) := by decide +kernel
theorem d_D_wrong_12 : decode m_D_wrong.2.1 12 = .ok (.iload_n 3, 1) := by decide +kernel
theorem d_D_wrong_13 : decode m_D_wrong.2.1 13 = .ok (.iconst 1, 1) := by decide +kernel
theorem d_D_wrong_14 : decode m_D_wrong.2.1 14 = .ok (.iadd, 1) := by decide +kernel
theorem d_D_wrong_15 : decode m_D_wrong.2.1 15 = .ok (.sipush 1000, 3) := by decide +kernel
theorem d_D_wrong_18 : decode m_D_wrong.2.1 18 = .ok (.if_icmp .ge 121, 3) := by decide +kernel
theorem d_D_wrong_21 : decode m_D_wrong.2.1 21 = .ok (.aload_n 0, 1) := by decide +kernel
theorem d_D_wrong_22 : decode m_D_wrong.2.1 22 = .ok (.getfield 50, 3) := by decide +kernel
theorem d_D_wrong_25 : decode m_D_wrong.2.1 25 = .ok (.aload_n 0, 1) := by decide +kernel
theorem d_D_wrong_26 : decode m_D_wrong.2.1 26 = .ok (.getfield 53, 3) := by decide +kernel
theorem d_D_wrong_29 : decode m_D_wrong.2.1 29 = .ok (.iload_n 3, 1) := by decide +kernel
theorem d_D_wrong_30 : decode m_D_wrong.2.1 30 = .ok (.iaload, 1) := by decide +kernel
theorem d_D_wrong_31 : decode m_D_wrong.2.1 31 = .ok (.aaload, 1) := by decide +kernel
theorem d_D_wrong_32 : decode m_D_wrong.2.1 32 = .ok (.iload 4, 2) := by decide +kernel
theorem d_D_wrong_34 : decode m_D_wrong.2.1 34 = .ok (.iload_n 2, 1) := by decide +kernel
theorem d_D_wrong_35 : decode m_D_wrong.2.1 35 = .ok (.if_icmp .ge 10, 3) := by decide +kernel
theorem d_D_wrong_38 : decode m_D_wrong.2.1 38 = .ok (.aload_n 1, 1) := by decide +kernel
theorem d_D_wrong_39 : decode m_D_wrong.2.1 39 = .ok (.iload 4, 2) := by decide +kernel
theorem d_D_wrong_41 : decode m_D_wrong.2.1 41 = .ok (.iaload, 1) := by decide +kernel
theorem d_D_wrong_42 : decode m_D_wrong.2.1 42 = .ok (.goto 5, 3) := by decide +kernel
theorem d_D_wrong_45 : decode m_D_wrong.2.1 45 = .ok (.bipush 6, 2) := by decide +kernel
theorem d_D_wrong_47 : decode m_D_wrong.2.1 47 = .ok (.saload, 1) := by decide +kernel
theorem d_D_wrong_48 : decode m_D_wrong.2.1 48 = .ok (.istore 5, 2) := by decide +kernel
theorem d_D_wrong_50 : decode m_D_wrong.2.1 50 = .ok (.iload 5, 2) := by decide +kernel
theorem d_D_wrong_52 : decode m_D_wrong.2.1 52 = .ok (.sipush 1000, 3) := by decide +kernel
theorem d_D_wrong_55 : decode m_D_wrong.2.1 55 = .ok (.if_icmp .ne 5, 3) := by decide +kernel
theorem d_D_wrong_58 : decode m_D_wrong.2.1 58 = .ok (.iconst (-1), 1) := by decide +kernel
theorem d_D_wrong_59 : decode m_D_wrong.2.1 59 = .ok (.ireturn, 1) := by decide +kernel
theorem d_D_wrong_60 : decode m_D_wrong.2.1 60 = .ok (.iload 5, 2) := by decide +kernel
theorem d_D_wrong_62 : decode m_D_wrong.2.1 62 = .ok (.ifCond .ne 6, 3) := by decide +kernel
theorem d_D_wrong_65 : decode m_D_wrong.2.1 65 = .ok (.iload 4, 2) := by decide +kernel
theorem d_D_wrong_67 : decode m_D_wrong.2.1 67 = .ok (.ireturn, 1) := by decide +kernel
theorem d_D_wrong_68 : decode m_D_wrong.2.1 68 = .ok (.iload 5, 2) := by decide +kernel
theorem d_D_wrong_70 : decode m_D_wrong.2.1 70 = .ok (.ifCond .le 9, 3) := by decide +kernel
theorem d_D_wrong_73 : decode m_D_wrong.2.1 73 = .ok (.iinc 4 1, 3) := by decide +kernel
theorem d_D_wrong_76 : decode m_D_wrong.2.1 76 = .ok (.goto 47, 3) := by decide +kernel
theorem d_D_wrong_79 : decode m_D_wrong.2.1 79 = .ok (.aload_n 0, 1) := by decide +kernel
theorem d_D_wrong_80 : decode m_D_wrong.2.1 80 = .ok (.getfield 16, 3) := by decide +kernel
theorem d_D_wrong_83 : decode m_D_wrong.2.1 83 = .ok (.iconst (-1), 1) := by decide +kernel
theorem d_D_wrong_84 : decode m_D_wrong.2.1 84 = .ok (.iload 5, 2) := by decide +kernel
theorem d_D_wrong_86 : decode m_D_wrong.2.1 86 = .ok (.isub, 1) := by decide +kernel
theorem d_D_wrong_87 : decode m_D_wrong.2.1 87 = .ok (.invokevirtual 131, 3) := by decide +kernel
theorem d_D_wrong_90 : decode m_D_wrong.2.1 90 = .ok (.checkcast 123, 3) := by decide +kernel
theorem d_D_wrong_93 : decode m_D_wrong.2.1 93 = .ok (.astore 6, 2) := by decide +kernel
theorem d_D_wrong_95 : decode m_D_wrong.2.1 95 = .ok (.iload_n 3, 1) := by decide +kernel
theorem d_D_wrong_96 : decode m_D_wrong.2.1 96 = .ok (.aload 6, 2) := by decide +kernel
theorem d_D_wrong_98 : decode m_D_wrong.2.1 98 = .ok (.getfield 153, 3) := by decide +kernel
theorem d_D_wrong_101 : decode m_D_wrong.2.1 101 = .ok (.arraylength, 1) := by decide +kernel
theorem d_D_wrong_102 : decode m_D_wrong.2.1 102 = .ok (.isub, 1) := by decide +kernel
theorem d_D_wrong_103 : decode m_D_wrong.2.1 103 = .ok (.istore_n 3, 1) := by decide +kernel
theorem d_D_wrong_104 : decode m_D_wrong.2.1 104 = .ok (.aload_n 0, 1) := by decide +kernel
theorem d_D_wrong_105 : decode m_D_wrong.2.1 105 = .ok (.getfield 50, 3) := by decide +kernel
theorem d_D_wrong_108 : decode m_D_wrong.2.1 108 = .ok (.aload_n 0, 1) := by decide +kernel
theorem d_D_wrong_109 : decode m_D_wrong.2.1 109 = .ok (.getfield 53, 3) := by decide +kernel
theorem d_D_wrong_112 : decode m_D_wrong.2.1 112 = .ok (.iload_n 3, 1) := by decide +kernel
theorem d_D_wrong_113 : decode m_D_wrong.2.1 113 = .ok (.iaload, 1) := by decide +kernel
theorem d_D_wrong_114 : decode m_D_wrong.2.1 114 = .ok (.aaload, 1) := by decide +kernel
theorem d_D_wrong_115 : decode m_D_wrong.2.1 115 = .ok (.aload 6, 2) := by decide +kernel
theorem d_D_wrong_117 : decode m_D_wrong.2.1 117 = .ok (.getfield 156, 3) := by decide +kernel
theorem d_D_wrong_120 : decode m_D_wrong.2.1 120 = .ok (.saload, 1) := by decide +kernel
theorem d_D_wrong_121 : decode m_D_wrong.2.1 121 = .ok (.istore 5, 2) := by decide +kernel
theorem d_D_wrong_123 : decode m_D_wrong.2.1 123 = .ok (.iinc 3 1, 3) := by decide +kernel
theorem d_D_wrong_126 : decode m_D_wrong.2.1 126 = .ok (.aload_n 0, 1) := by decide +kernel
theorem d_D_wrong_127 : decode m_D_wrong.2.1 127 = .ok (.getfield 53, 3) := by decide +kernel
theorem d_D_wrong_130 : decode m_D_wrong.2.1 130 = .ok (.iload_n 3, 1) := by decide +kernel
theorem d_D_wrong_131 : decode m_D_wrong.2.1 131 = .ok (.iload 5, 2) := by decide +kernel
theorem d_D_wrong_133 : decode m_D_wrong.2.1 133 = .ok (.iconst 1, 1) := by decide +kernel
theorem d_D_wrong_134 : decode m_D_wrong.2.1 134 = .ok (.isub, 1) := by decide +kernel
theorem d_D_wrong_135 : decode m_D_wrong.2.1 135 = .ok (.iastore, 1) := by decide +kernel
theorem d_D_wrong_136 : decode m_D_wrong.2.1 136 = .ok (.goto (-124), 3) := by decide +kernel
theorem d_D_wrong_139 : decode m_D_wrong.2.1 139 = .ok (.iload 4, 2) := by decide +kernel
theorem d_D_wrong_141 : decode m_D_wrong.2.1 141 = .ok (.ireturn, 1) := by decide +kernel
theorem d_D_repair_0 : decode m_D_repair.2.1 0 = .ok (.aload_n 0, 1) := by decide +kernel
theorem d_D_repair_1 : decode m_D_repair.2.1 1 = .ok (.invokevirtual 150, 3) := by decide +kernel
theorem d_D_repair_4 : decode m_D_repair.2.1 4 = .ok (.aload_n 0, 1) := by decide +kernel
theorem d_D_repair_5 : decode m_D_repair.2.1 5 = .ok (.getfield 146, 3) := by decide +kernel
theorem d_D_repair_8 : decode m_D_repair.2.1 8 = .ok (.invokestatic 139, 3) := by decide +kernel
theorem d_D_repair_11 : decode m_D_repair.2.1 11 = .ok (.iload_n 1, 1) := by decide +kernel
theorem d_D_repair_12 : decode m_D_repair.2.1 12 = .ok (.ifCond .lt 12, 3) := by decide +kernel
theorem d_D_repair_15 : decode m_D_repair.2.1 15 = .ok (.iload_n 1, 1) := by decide +kernel
theorem d_D_repair_16 : decode m_D_repair.2.1 16 = .ok (.iconst 3, 1) := by decide +kernel
theorem d_D_repair_17 : decode m_D_repair.2.1 17 = .ok (.if_icmp .gt 7, 3) := by decide +kernel
theorem d_D_repair_20 : decode m_D_repair.2.1 20 = .ok (.iconst 1, 1) := by decide +kernel
theorem d_D_repair_21 : decode m_D_repair.2.1 21 = .ok (.goto 4, 3) := by decide +kernel
theorem d_D_repair_24 : decode m_D_repair.2.1 24 = .ok (.iconst 0, 1) := by decide +kernel
theorem d_D_repair_25 : decode m_D_repair.2.1 25 = .ok (.invokestatic 116, 3) := by decide +kernel
theorem d_D_repair_28 : decode m_D_repair.2.1 28 = .ok (.aload_n 0, 1) := by decide +kernel
theorem d_D_repair_29 : decode m_D_repair.2.1 29 = .ok (.aload_n 0, 1) := by decide +kernel
theorem d_D_repair_30 : decode m_D_repair.2.1 30 = .ok (.getfield 32, 3) := by decide +kernel
theorem d_D_repair_33 : decode m_D_repair.2.1 33 = .ok (.aload_n 0, 1) := by decide +kernel
theorem d_D_repair_34 : decode m_D_repair.2.1 34 = .ok (.getfield 236, 3) := by decide +kernel
theorem d_D_repair_37 : decode m_D_repair.2.1 37 = .ok (.invokevirtual 238, 3) := by decide +kernel
theorem d_D_repair_40 : decode m_D_repair.2.1 40 = .ok (.istore_n 2, 1) := by decide +kernel
theorem d_D_repair_41 : decode m_D_repair.2.1 41 = .ok (.iload_n 2, 1) := by decide +kernel
theorem d_D_repair_42 : decode m_D_repair.2.1 42 = .ok (.ifCond .ge 5, 3) := by decide +kernel
theorem d_D_repair_45 : decode m_D_repair.2.1 45 = .ok (.iconst 0, 1) := by decide +kernel
theorem d_D_repair_46 : decode m_D_repair.2.1 46 = .ok (.ireturn, 1) := by decide +kernel
theorem d_D_repair_47 : decode m_D_repair.2.1 47 = .ok (.iconst 1, 1) := by decide +kernel
theorem d_D_repair_48 : decode m_D_repair.2.1 48 = .ok (.istore_n 3, 1) := by decide +kernel
theorem d_D_repair_49 : decode m_D_repair.2.1 49 = .ok (.iload_n 3, 1) := by decide +kernel
theorem d_D_repair_50 : decode m_D_repair.2.1 50 = .ok (.iconst 3, 1) := by decide +kernel
theorem d_D_repair_51 : decode m_D_repair.2.1 51 = .ok (.if_icmp .gt 60, 3) := by decide +kernel
theorem d_D_repair_54 : decode m_D_repair.2.1 54 = .ok (.aload_n 0, 1) := by decide +kernel
theorem d_D_repair_55 : decode m_D_repair.2.1 55 = .ok (.getfield 95, 3) := by decide +kernel
theorem d_D_repair_58 : decode m_D_repair.2.1 58 = .ok (.ifCond .ne 53, 3) := by decide +kernel
theorem d_D_repair_61 : decode m_D_repair.2.1 61 = .ok (.iconst 0, 1) := by decide +kernel
theorem d_D_repair_62 : decode m_D_repair.2.1 62 = .ok (.istore 4, 2) := by decide +kernel
theorem d_D_repair_64 : decode m_D_repair.2.1 64 = .ok (.iload 4, 2) := by decide +kernel
theorem d_D_repair_66 : decode m_D_repair.2.1 66 = .ok (.iload_n 2, 1) := by decide +kernel
theorem d_D_repair_67 : decode m_D_repair.2.1 67 = .ok (.if_icmp .ge 23, 3) := by decide +kernel
theorem d_D_repair_70 : decode m_D_repair.2.1 70 = .ok (.aload_n 0, 1) := by decide +kernel
theorem d_D_repair_71 : decode m_D_repair.2.1 71 = .ok (.getfield 56, 3) := by decide +kernel
theorem d_D_repair_74 : decode m_D_repair.2.1 74 = .ok (.iload 4, 2) := by decide +kernel
theorem d_D_repair_76 : decode m_D_repair.2.1 76 = .ok (.aload_n 0, 1) := by decide +kernel
theorem d_D_repair_77 : decode m_D_repair.2.1 77 = .ok (.getfield 32, 3) := by decide +kernel
theorem d_D_repair_80 : decode m_D_repair.2.1 80 = .ok (.iload 4, 2) := by decide +kernel
theorem d_D_repair_82 : decode m_D_repair.2.1 82 = .ok (.iaload, 1) := by decide +kernel
theorem d_D_repair_83 : decode m_D_repair.2.1 83 = .ok (.iastore, 1) := by decide +kernel
theorem d_D_repair_84 : decode m_D_repair.2.1 84 = .ok (.iinc 4 1, 3) := by decide +kernel
theorem d_D_repair_87 : decode m_D_repair.2.1 87 = .ok (.goto (-23), 3) := by decide +kernel
theorem d_D_repair_90 : decode m_D_repair.2.1 90 = .ok (.aload_n 0, 1) := by decide +kernel
theorem d_D_repair_91 : decode m_D_repair.2.1 91 = .ok (.iload_n 3, 1) := by decide +kernel
theorem d_D_repair_92 : decode m_D_repair.2.1 92 = .ok (.putfield 99, 3) := by decide +kernel
theorem d_D_repair_95 : decode m_D_repair.2.1 95 = .ok (.aload_n 0, 1) := by decide +kernel
theorem d_D_repair_96 : decode m_D_repair.2.1 96 = .ok (.iload_n 2, 1) := by decide +kernel
theorem d_D_repair_97 : decode m_D_repair.2.1 97 = .ok (.iload_n 2, 1) := by decide +kernel
theorem d_D_repair_98 : decode m_D_repair.2.1 98 = .ok (.iconst 0, 1) := by decide +kernel
theorem d_D_repair_99 : decode m_D_repair.2.1 99 = .ok (.iconst 0, 1) := by decide +kernel
theorem d_D_repair_100 : decode m_D_repair.2.1 100 = .ok (.iload_n 3, 1) := by decide +kernel
theorem d_D_repair_101 : decode m_D_repair.2.1 101 = .ok (.iload_n 1, 1) := by decide +kernel
theorem d_D_repair_102 : decode m_D_repair.2.1 102 = .ok (.invokestatic 249, 3) := by decide +kernel
theorem d_D_repair_105 : decode m_D_repair.2.1 105 = .ok (.iinc 3 1, 3) := by decide +kernel
theorem d_D_repair_108 : decode m_D_repair.2.1 108 = .ok (.goto (-59), 3) := by decide +kernel
theorem d_D_repair_111 : decode m_D_repair.2.1 111 = .ok (.aload_n 0, 1) := by decide +kernel
theorem d_D_repair_112 : decode m_D_repair.2.1 112 = .ok (.getfield 95, 3) := by decide +kernel
theorem d_D_repair_115 : decode m_D_repair.2.1 115 = .ok (.bipush 40, 2) := by decide +kernel
theorem d_D_repair_117 : decode m_D_repair.2.1 117 = .ok (.if_icmp .le 7, 3) := by decide +kernel
theorem d_D_repair_120 : decode m_D_repair.2.1 120 = .ok (.iconst 1, 1) := by decide +kernel
theorem d_D_repair_121 : decode m_D_repair.2.1 121 = .ok (.goto 4, 3) := by decide +kernel
theorem d_D_repair_124 : decode m_D_repair.2.1 124 = .ok (.iconst 0, 1) := by decide +kernel
theorem d_D_repair_125 : decode m_D_repair.2.1 125 = .ok (.istore_n 3, 1) := by decide +kernel
theorem d_D_repair_126 : decode m_D_repair.2.1 126 = .ok (.iload_n 3, 1) := by decide +kernel
theorem d_D_repair_127 : decode m_D_repair.2.1 127 = .ok (.ifCond .ne 10, 3) := by decide +kernel
theorem d_D_repair_130 : decode m_D_repair.2.1 130 = .ok (.aload_n 0, 1) := by decide +kernel
theorem d_D_repair_131 : decode m_D_repair.2.1 131 = .ok (.getfield 95, 3) := by decide +kernel
theorem d_D_repair_134 : decode m_D_repair.2.1 134 = .ok (.ifCond .ne 7, 3) := by decide +kernel
theorem d_D_repair_137 : decode m_D_repair.2.1 137 = .ok (.aload_n 0, 1) := by decide +kernel
theorem d_D_repair_138 : decode m_D_repair.2.1 138 = .ok (.invokevirtual 150, 3) := by decide +kernel
theorem d_D_repair_141 : decode m_D_repair.2.1 141 = .ok (.iload_n 3, 1) := by decide +kernel
theorem d_D_repair_142 : decode m_D_repair.2.1 142 = .ok (.ifCond .eq 11, 3) := by decide +kernel
theorem d_D_repair_145 : decode m_D_repair.2.1 145 = .ok (.new 229, 3) := by decide +kernel
theorem d_D_repair_148 : decode m_D_repair.2.1 148 = .ok (.dup, 1) := by decide +kernel
theorem d_D_repair_149 : decode m_D_repair.2.1 149 = .ok (.invokespecial 231, 3) := by decide +kernel
theorem d_D_repair_152 : decode m_D_repair.2.1 152 = .ok (.athrow, 1) := by decide +kernel
theorem d_D_repair_153 : decode m_D_repair.2.1 153 = .ok (.aload_n 0, 1) := by decide +kernel
theorem d_D_repair_154 : decode m_D_repair.2.1 154 = .ok (.getfield 95, 3) := by decide +kernel
theorem d_D_repair_157 : decode m_D_repair.2.1 157 = .ok (.ireturn, 1) := by decide +kernel
theorem d_D_look_0 : decode m_D_look.2.1 0 = .ok (.aload_n 0, 1) := by decide +kernel
theorem d_D_look_1 : decode m_D_look.2.1 1 = .ok (.getfield 95, 3) := by decide +kernel
theorem d_D_look_4 : decode m_D_look.2.1 4 = .ok (.bipush 40, 2) := by decide +kernel
theorem d_D_look_6 : decode m_D_look.2.1 6 = .ok (.if_icmp .le 4, 3) := by decide +kernel
theorem d_D_look_9 : decode m_D_look.2.1 9 = .ok (.return_, 1) := by decide +kernel
theorem d_D_look_10 : decode m_D_look.2.1 10 = .ok (.iload_n 3, 1) := by decide +kernel
theorem d_D_look_11 : decode m_D_look.2.1 11 = .ok (.ifCond .le 20, 3) := by decide +kernel
theorem d_D_look_14 : decode m_D_look.2.1 14 = .ok (.aload_n 0, 1) := by decide +kernel
theorem d_D_look_15 : decode m_D_look.2.1 15 = .ok (.getfield 59, 3) := by decide +kernel
theorem d_D_look_18 : decode m_D_look.2.1 18 = .ok (.iload_n 3, 1) := by decide +kernel
theorem d_D_look_19 : decode m_D_look.2.1 19 = .ok (.iconst 1, 1) := by decide +kernel
theorem d_D_look_20 : decode m_D_look.2.1 20 = .ok (.isub, 1) := by decide +kernel
theorem d_D_look_21 : decode m_D_look.2.1 21 = .ok (.iaload, 1) := by decide +kernel
theorem d_D_look_22 : decode m_D_look.2.1 22 = .ok (.bipush 6, 2) := by decide +kernel
theorem d_D_look_24 : decode m_D_look.2.1 24 = .ok (.if_icmp .ne 7, 3) := by decide +kernel
theorem d_D_look_27 : decode m_D_look.2.1 27 = .ok (.iconst 1, 1) := by decide +kernel
theorem d_D_look_28 : decode m_D_look.2.1 28 = .ok (.goto 4, 3) := by decide +kernel
theorem d_D_look_31 : decode m_D_look.2.1 31 = .ok (.iconst 0, 1) := by decide +kernel
theorem d_D_look_32 : decode m_D_look.2.1 32 = .ok (.istore 7, 2) := by decide +kernel
theorem d_D_look_34 : decode m_D_look.2.1 34 = .ok (.iconst 0, 1) := by decide +kernel
theorem d_D_look_35 : decode m_D_look.2.1 35 = .ok (.istore 8, 2) := by decide +kernel
theorem d_D_look_37 : decode m_D_look.2.1 37 = .ok (.iload 8, 2) := by decide +kernel
theorem d_D_look_39 : decode m_D_look.2.1 39 = .ok (.bipush 6, 2) := by decide +kernel
theorem d_D_look_41 : decode m_D_look.2.1 41 = .ok (.if_icmp .ge 76, 3) := by decide +kernel
theorem d_D_look_44 : decode m_D_look.2.1 44 = .ok (.iload 7, 2) := by decide +kernel
theorem d_D_look_46 : decode m_D_look.2.1 46 = .ok (.ifCond .ne 71, 3) := by decide +kernel
theorem d_D_look_49 : decode m_D_look.2.1 49 = .ok (.aload_n 0, 1) := by decide +kernel
theorem d_D_look_50 : decode m_D_look.2.1 50 = .ok (.getfield 28, 3) := by decide +kernel
theorem d_D_look_53 : decode m_D_look.2.1 53 = .ok (.iconst 0, 1) := by decide +kernel
theorem d_D_look_54 : decode m_D_look.2.1 54 = .ok (.aaload, 1) := by decide +kernel
theorem d_D_look_55 : decode m_D_look.2.1 55 = .ok (.iload 8, 2) := by decide +kernel
theorem d_D_look_57 : decode m_D_look.2.1 57 = .ok (.iaload, 1) := by decide +kernel
theorem d_D_look_58 : decode m_D_look.2.1 58 = .ok (.iload 5, 2) := by decide +kernel
theorem d_D_look_60 : decode m_D_look.2.1 60 = .ok (.if_icmp .le 6, 3) := by decide +kernel
theorem d_D_look_63 : decode m_D_look.2.1 63 = .ok (.goto 48, 3) := by decide +kernel
theorem d_D_look_66 : decode m_D_look.2.1 66 = .ok (.aload_n 0, 1) := by decide +kernel
theorem d_D_look_67 : decode m_D_look.2.1 67 = .ok (.getfield 56, 3) := by decide +kernel
theorem d_D_look_70 : decode m_D_look.2.1 70 = .ok (.iload_n 1, 1) := by decide +kernel
theorem d_D_look_71 : decode m_D_look.2.1 71 = .ok (.iload 8, 2) := by decide +kernel
theorem d_D_look_73 : decode m_D_look.2.1 73 = .ok (.iastore, 1) := by decide +kernel
theorem d_D_look_74 : decode m_D_look.2.1 74 = .ok (.aload_n 0, 1) := by decide +kernel
theorem d_D_look_75 : decode m_D_look.2.1 75 = .ok (.iload_n 1, 1) := by decide +kernel
theorem d_D_look_76 : decode m_D_look.2.1 76 = .ok (.iconst 1, 1) := by decide +kernel
theorem d_D_look_77 : decode m_D_look.2.1 77 = .ok (.iadd, 1) := by decide +kernel
theorem d_D_look_78 : decode m_D_look.2.1 78 = .ok (.invokevirtual 242, 3) := by decide +kernel
theorem d_D_look_81 : decode m_D_look.2.1 81 = .ok (.ifCond .eq 30, 3) := by decide +kernel
theorem d_D_look_84 : decode m_D_look.2.1 84 = .ok (.aload_n 0, 1) := by decide +kernel
theorem d_D_look_85 : decode m_D_look.2.1 85 = .ok (.iload_n 1, 1) := by decide +kernel
theorem d_D_look_86 : decode m_D_look.2.1 86 = .ok (.iconst 1, 1) := by decide +kernel
theorem d_D_look_87 : decode m_D_look.2.1 87 = .ok (.iadd, 1) := by decide +kernel
theorem d_D_look_88 : decode m_D_look.2.1 88 = .ok (.iload_n 2, 1) := by decide +kernel
theorem d_D_look_89 : decode m_D_look.2.1 89 = .ok (.iload_n 3, 1) := by decide +kernel
theorem d_D_look_90 : decode m_D_look.2.1 90 = .ok (.iload 8, 2) := by decide +kernel
theorem d_D_look_92 : decode m_D_look.2.1 92 = .ok (.iload 4, 2) := by decide +kernel
theorem d_D_look_94 : decode m_D_look.2.1 94 = .ok (.iload 5, 2) := by decide +kernel
theorem d_D_look_96 : decode m_D_look.2.1 96 = .ok (.aload_n 0, 1) := by decide +kernel
theorem d_D_look_97 : decode m_D_look.2.1 97 = .ok (.getfield 28, 3) := by decide +kernel
theorem d_D_look_100 : decode m_D_look.2.1 100 = .ok (.iconst 0, 1) := by decide +kernel
theorem d_D_look_101 : decode m_D_look.2.1 101 = .ok (.aaload, 1) := by decide +kernel
theorem d_D_look_102 : decode m_D_look.2.1 102 = .ok (.iload 8, 2) := by decide +kernel
theorem d_D_look_104 : decode m_D_look.2.1 104 = .ok (.iaload, 1) := by decide +kernel
theorem d_D_look_105 : decode m_D_look.2.1 105 = .ok (.isub, 1) := by decide +kernel
theorem d_D_look_106 : decode m_D_look.2.1 106 = .ok (.iload 6, 2) := by decide +kernel
theorem d_D_look_108 : decode m_D_look.2.1 108 = .ok (.invokevirtual 245, 3) := by decide +kernel
theorem d_D_look_111 : decode m_D_look.2.1 111 = .ok (.iinc 8 1, 3) := by decide +kernel
theorem d_D_look_114 : decode m_D_look.2.1 114 = .ok (.goto (-77), 3) := by decide +kernel
theorem d_D_look_117 : decode m_D_look.2.1 117 = .ok (.iload_n 2, 1) := by decide +kernel
theorem d_D_look_118 : decode m_D_look.2.1 118 = .ok (.aload_n 0, 1) := by decide +kernel
theorem d_D_look_119 : decode m_D_look.2.1 119 = .ok (.getfield 236, 3) := by decide +kernel
theorem d_D_look_122 : decode m_D_look.2.1 122 = .ok (.if_icmp .ne 4, 3) := by decide +kernel
theorem d_D_look_125 : decode m_D_look.2.1 125 = .ok (.return_, 1) := by decide +kernel
theorem d_D_look_126 : decode m_D_look.2.1 126 = .ok (.aload_n 0, 1) := by decide +kernel
theorem d_D_look_127 : decode m_D_look.2.1 127 = .ok (.getfield 32, 3) := by decide +kernel
theorem d_D_look_130 : decode m_D_look.2.1 130 = .ok (.iload_n 2, 1) := by decide +kernel
theorem d_D_look_131 : decode m_D_look.2.1 131 = .ok (.iaload, 1) := by decide +kernel
theorem d_D_look_132 : decode m_D_look.2.1 132 = .ok (.istore 8, 2) := by decide +kernel
theorem d_D_look_134 : decode m_D_look.2.1 134 = .ok (.aload_n 0, 1) := by decide +kernel
theorem d_D_look_135 : decode m_D_look.2.1 135 = .ok (.getfield 28, 3) := by decide +kernel
theorem d_D_look_138 : decode m_D_look.2.1 138 = .ok (.iconst 1, 1) := by decide +kernel
theorem d_D_look_139 : decode m_D_look.2.1 139 = .ok (.aaload, 1) := by decide +kernel
theorem d_D_look_140 : decode m_D_look.2.1 140 = .ok (.iload 8, 2) := by decide +kernel
theorem d_D_look_142 : decode m_D_look.2.1 142 = .ok (.iaload, 1) := by decide +kernel
theorem d_D_look_143 : decode m_D_look.2.1 143 = .ok (.iload 5, 2) := by decide +kernel
theorem d_D_look_145 : decode m_D_look.2.1 145 = .ok (.if_icmp .gt 30, 3) := by decide +kernel
theorem d_D_look_148 : decode m_D_look.2.1 148 = .ok (.aload_n 0, 1) := by decide +kernel
theorem d_D_look_149 : decode m_D_look.2.1 149 = .ok (.iload_n 1, 1) := by decide +kernel
theorem d_D_look_150 : decode m_D_look.2.1 150 = .ok (.iload_n 2, 1) := by decide +kernel
theorem d_D_look_151 : decode m_D_look.2.1 151 = .ok (.iconst 1, 1) := by decide +kernel
theorem d_D_look_152 : decode m_D_look.2.1 152 = .ok (.iadd, 1) := by decide +kernel
theorem d_D_look_153 : decode m_D_look.2.1 153 = .ok (.iload_n 3, 1) := by decide +kernel
theorem d_D_look_154 : decode m_D_look.2.1 154 = .ok (.bipush 6, 2) := by decide +kernel
theorem d_D_look_156 : decode m_D_look.2.1 156 = .ok (.iload 4, 2) := by decide +kernel
theorem d_D_look_158 : decode m_D_look.2.1 158 = .ok (.iload 5, 2) := by decide +kernel
theorem d_D_look_160 : decode m_D_look.2.1 160 = .ok (.aload_n 0, 1) := by decide +kernel
theorem d_D_look_161 : decode m_D_look.2.1 161 = .ok (.getfield 28, 3) := by decide +kernel
theorem d_D_look_164 : decode m_D_look.2.1 164 = .ok (.iconst 1, 1) := by decide +kernel
theorem d_D_look_165 : decode m_D_look.2.1 165 = .ok (.aaload, 1) := by decide +kernel
theorem d_D_look_166 : decode m_D_look.2.1 166 = .ok (.iload 8, 2) := by decide +kernel
theorem d_D_look_168 : decode m_D_look.2.1 168 = .ok (.iaload, 1) := by decide +kernel
theorem d_D_look_169 : decode m_D_look.2.1 169 = .ok (.isub, 1) := by decide +kernel
theorem d_D_look_170 : decode m_D_look.2.1 170 = .ok (.iload 6, 2) := by decide +kernel
theorem d_D_look_172 : decode m_D_look.2.1 172 = .ok (.invokevirtual 245, 3) := by decide +kernel
theorem d_D_look_175 : decode m_D_look.2.1 175 = .ok (.aload_n 0, 1) := by decide +kernel
theorem d_D_look_176 : decode m_D_look.2.1 176 = .ok (.getfield 56, 3) := by decide +kernel
theorem d_D_look_179 : decode m_D_look.2.1 179 = .ok (.iload_n 1, 1) := by decide +kernel
theorem d_D_look_180 : decode m_D_look.2.1 180 = .ok (.iload 8, 2) := by decide +kernel
theorem d_D_look_182 : decode m_D_look.2.1 182 = .ok (.iastore, 1) := by decide +kernel
theorem d_D_look_183 : decode m_D_look.2.1 183 = .ok (.iload 4, 2) := by decide +kernel
theorem d_D_look_185 : decode m_D_look.2.1 185 = .ok (.iconst 3, 1) := by decide +kernel
theorem d_D_look_186 : decode m_D_look.2.1 186 = .ok (.if_icmp .ge 39, 3) := by decide +kernel
theorem d_D_look_189 : decode m_D_look.2.1 189 = .ok (.iload 5, 2) := by decide +kernel
theorem d_D_look_191 : decode m_D_look.2.1 191 = .ok (.ifCond .le 34, 3) := by decide +kernel
theorem d_D_look_194 : decode m_D_look.2.1 194 = .ok (.aload_n 0, 1) := by decide +kernel
theorem d_D_look_195 : decode m_D_look.2.1 195 = .ok (.iload_n 1, 1) := by decide +kernel
theorem d_D_look_196 : decode m_D_look.2.1 196 = .ok (.iconst 1, 1) := by decide +kernel
theorem d_D_look_197 : decode m_D_look.2.1 197 = .ok (.iadd, 1) := by decide +kernel
theorem d_D_look_198 : decode m_D_look.2.1 198 = .ok (.invokevirtual 242, 3) := by decide +kernel
theorem d_D_look_201 : decode m_D_look.2.1 201 = .ok (.ifCond .eq 24, 3) := by decide +kernel
theorem d_D_look_204 : decode m_D_look.2.1 204 = .ok (.aload_n 0, 1) := by decide +kernel
theorem d_D_look_205 : decode m_D_look.2.1 205 = .ok (.iload_n 1, 1) := by decide +kernel
theorem d_D_look_206 : decode m_D_look.2.1 206 = .ok (.iconst 1, 1) := by decide +kernel
theorem d_D_look_207 : decode m_D_look.2.1 207 = .ok (.iadd, 1) := by decide +kernel
theorem d_D_look_208 : decode m_D_look.2.1 208 = .ok (.iload_n 2, 1) := by decide +kernel
theorem d_D_look_209 : decode m_D_look.2.1 209 = .ok (.iconst 1, 1) := by decide +kernel
theorem d_D_look_210 : decode m_D_look.2.1 210 = .ok (.iadd, 1) := by decide +kernel
theorem d_D_look_211 : decode m_D_look.2.1 211 = .ok (.iload_n 3, 1) := by decide +kernel
theorem d_D_look_212 : decode m_D_look.2.1 212 = .ok (.bipush 7, 2) := by decide +kernel
theorem d_D_look_214 : decode m_D_look.2.1 214 = .ok (.iload 4, 2) := by decide +kernel
theorem d_D_look_216 : decode m_D_look.2.1 216 = .ok (.iconst 1, 1) := by decide +kernel
theorem d_D_look_217 : decode m_D_look.2.1 217 = .ok (.iadd, 1) := by decide +kernel
theorem d_D_look_218 : decode m_D_look.2.1 218 = .ok (.iload 5, 2) := by decide +kernel
theorem d_D_look_220 : decode m_D_look.2.1 220 = .ok (.iload 6, 2) := by decide +kernel
theorem d_D_look_222 : decode m_D_look.2.1 222 = .ok (.invokevirtual 245, 3) := by decide +kernel
theorem d_D_look_225 : decode m_D_look.2.1 225 = .ok (.return_, 1) := by decide +kernel
theorem d_D_goesOn_0 : decode m_D_goesOn.2.1 0 = .ok (.aload_n 0, 1) := by decide +kernel
theorem d_D_goesOn_1 : decode m_D_goesOn.2.1 1 = .ok (.aload_n 0, 1) := by decide +kernel
theorem d_D_goesOn_2 : decode m_D_goesOn.2.1 2 = .ok (.getfield 56, 3) := by decide +kernel
theorem d_D_goesOn_5 : decode m_D_goesOn.2.1 5 = .ok (.iload_n 1, 1) := by decide +kernel
theorem d_D_goesOn_6 : decode m_D_goesOn.2.1 6 = .ok (.invokevirtual 238, 3) := by decide +kernel
theorem d_D_goesOn_9 : decode m_D_goesOn.2.1 9 = .ok (.istore_n 2, 1) := by decide +kernel
theorem d_D_goesOn_10 : decode m_D_goesOn.2.1 10 = .ok (.iload_n 2, 1) := by decide +kernel
theorem d_D_goesOn_11 : decode m_D_goesOn.2.1 11 = .ok (.ifCond .lt 8, 3) := by decide +kernel
theorem d_D_goesOn_14 : decode m_D_goesOn.2.1 14 = .ok (.iload_n 2, 1) := by decide +kernel
theorem d_D_goesOn_15 : decode m_D_goesOn.2.1 15 = .ok (.iload_n 1, 1) := by decide +kernel
theorem d_D_goesOn_16 : decode m_D_goesOn.2.1 16 = .ok (.if_icmp .lt 7, 3) := by decide +kernel
theorem d_D_goesOn_19 : decode m_D_goesOn.2.1 19 = .ok (.iconst 1, 1) := by decide +kernel
theorem d_D_goesOn_20 : decode m_D_goesOn.2.1 20 = .ok (.goto 4, 3) := by decide +kernel
theorem d_D_goesOn_23 : decode m_D_goesOn.2.1 23 = .ok (.iconst 0, 1) := by decide +kernel
theorem d_D_goesOn_24 : decode m_D_goesOn.2.1 24 = .ok (.ireturn, 1) := by decide +kernel
theorem d_D_made_0 : decode m_D_made.2.1 0 = .ok (.aload_n 0, 1) := by decide +kernel
theorem d_D_made_1 : decode m_D_made.2.1 1 = .ok (.getfield 59, 3) := by decide +kernel
theorem d_D_made_4 : decode m_D_made.2.1 4 = .ok (.iload_n 3, 1) := by decide +kernel
theorem d_D_made_5 : decode m_D_made.2.1 5 = .ok (.iload 4, 2) := by decide +kernel
theorem d_D_made_7 : decode m_D_made.2.1 7 = .ok (.iastore, 1) := by decide +kernel
theorem d_D_made_8 : decode m_D_made.2.1 8 = .ok (.iload 6, 2) := by decide +kernel
theorem d_D_made_10 : decode m_D_made.2.1 10 = .ok (.ifCond .le 21, 3) := by decide +kernel
theorem d_D_made_13 : decode m_D_made.2.1 13 = .ok (.aload_n 0, 1) := by decide +kernel
theorem d_D_made_14 : decode m_D_made.2.1 14 = .ok (.iload_n 1, 1) := by decide +kernel
theorem d_D_made_15 : decode m_D_made.2.1 15 = .ok (.iload_n 2, 1) := by decide +kernel
theorem d_D_made_16 : decode m_D_made.2.1 16 = .ok (.iload_n 3, 1) := by decide +kernel
theorem d_D_made_17 : decode m_D_made.2.1 17 = .ok (.iconst 1, 1) := by decide +kernel
theorem d_D_made_18 : decode m_D_made.2.1 18 = .ok (.iadd, 1) := by decide +kernel
theorem d_D_made_19 : decode m_D_made.2.1 19 = .ok (.iload 5, 2) := by decide +kernel
theorem d_D_made_21 : decode m_D_made.2.1 21 = .ok (.iload 6, 2) := by decide +kernel
theorem d_D_made_23 : decode m_D_made.2.1 23 = .ok (.iload 7, 2) := by decide +kernel
theorem d_D_made_25 : decode m_D_made.2.1 25 = .ok (.invokestatic 249, 3) := by decide +kernel
theorem d_D_made_28 : decode m_D_made.2.1 28 = .ok (.goto 21, 3) := by decide +kernel
theorem d_D_made_31 : decode m_D_made.2.1 31 = .ok (.iload 4, 2) := by decide +kernel
theorem d_D_made_33 : decode m_D_made.2.1 33 = .ok (.bipush 7, 2) := by decide +kernel
theorem d_D_made_35 : decode m_D_made.2.1 35 = .ok (.if_icmp .eq 14, 3) := by decide +kernel
theorem d_D_made_38 : decode m_D_made.2.1 38 = .ok (.aload_n 0, 1) := by decide +kernel
theorem d_D_made_39 : decode m_D_made.2.1 39 = .ok (.iload_n 1, 1) := by decide +kernel
theorem d_D_made_40 : decode m_D_made.2.1 40 = .ok (.iload_n 2, 1) := by decide +kernel
theorem d_D_made_41 : decode m_D_made.2.1 41 = .ok (.iload_n 3, 1) := by decide +kernel
theorem d_D_made_42 : decode m_D_made.2.1 42 = .ok (.iconst 1, 1) := by decide +kernel
theorem d_D_made_43 : decode m_D_made.2.1 43 = .ok (.iadd, 1) := by decide +kernel
theorem d_D_made_44 : decode m_D_made.2.1 44 = .ok (.iload 7, 2) := by decide +kernel
theorem d_D_made_46 : decode m_D_made.2.1 46 = .ok (.invokevirtual 253, 3) := by decide +kernel
theorem d_D_made_49 : decode m_D_made.2.1 49 = .ok (.return_, 1) := by decide +kernel
theorem d_D_judge_0 : decode m_D_judge.2.1 0 = .ok (.iload_n 1, 1) := by decide +kernel
theorem d_D_judge_1 : decode m_D_judge.2.1 1 = .ok (.istore 5, 2) := by decide +kernel
theorem d_D_judge_3 : decode m_D_judge.2.1 3 = .ok (.iload_n 2, 1) := by decide +kernel
theorem d_D_judge_4 : decode m_D_judge.2.1 4 = .ok (.istore 6, 2) := by decide +kernel
theorem d_D_judge_6 : decode m_D_judge.2.1 6 = .ok (.iload 6, 2) := by decide +kernel
theorem d_D_judge_8 : decode m_D_judge.2.1 8 = .ok (.aload_n 0, 1) := by decide +kernel
theorem d_D_judge_9 : decode m_D_judge.2.1 9 = .ok (.getfield 236, 3) := by decide +kernel
theorem d_D_judge_12 : decode m_D_judge.2.1 12 = .ok (.if_icmp .ge 26, 3) := by decide +kernel
theorem d_D_judge_15 : decode m_D_judge.2.1 15 = .ok (.aload_n 0, 1) := by decide +kernel
theorem d_D_judge_16 : decode m_D_judge.2.1 16 = .ok (.getfield 56, 3) := by decide +kernel
theorem d_D_judge_19 : decode m_D_judge.2.1 19 = .ok (.iload 5, 2) := by decide +kernel
theorem d_D_judge_21 : decode m_D_judge.2.1 21 = .ok (.aload_n 0, 1) := by decide +kernel
theorem d_D_judge_22 : decode m_D_judge.2.1 22 = .ok (.getfield 32, 3) := by decide +kernel
theorem d_D_judge_25 : decode m_D_judge.2.1 25 = .ok (.iload 6, 2) := by decide +kernel
theorem d_D_judge_27 : decode m_D_judge.2.1 27 = .ok (.iaload, 1) := by decide +kernel
theorem d_D_judge_28 : decode m_D_judge.2.1 28 = .ok (.iastore, 1) := by decide +kernel
theorem d_D_judge_29 : decode m_D_judge.2.1 29 = .ok (.iinc 5 1, 3) := by decide +kernel
theorem d_D_judge_32 : decode m_D_judge.2.1 32 = .ok (.iinc 6 1, 3) := by decide +kernel
theorem d_D_judge_35 : decode m_D_judge.2.1 35 = .ok (.goto (-29), 3) := by decide +kernel
theorem d_D_judge_38 : decode m_D_judge.2.1 38 = .ok (.aload_n 0, 1) := by decide +kernel
theorem d_D_judge_39 : decode m_D_judge.2.1 39 = .ok (.aload_n 0, 1) := by decide +kernel
theorem d_D_judge_40 : decode m_D_judge.2.1 40 = .ok (.getfield 56, 3) := by decide +kernel
theorem d_D_judge_43 : decode m_D_judge.2.1 43 = .ok (.iload 5, 2) := by decide +kernel
theorem d_D_judge_45 : decode m_D_judge.2.1 45 = .ok (.invokevirtual 238, 3) := by decide +kernel
theorem d_D_judge_48 : decode m_D_judge.2.1 48 = .ok (.istore 6, 2) := by decide +kernel
theorem d_D_judge_50 : decode m_D_judge.2.1 50 = .ok (.iload 6, 2) := by decide +kernel
theorem d_D_judge_52 : decode m_D_judge.2.1 52 = .ok (.ifCond .ge 12, 3) := by decide +kernel
theorem d_D_judge_55 : decode m_D_judge.2.1 55 = .ok (.aload_n 0, 1) := by decide +kernel
theorem d_D_judge_56 : decode m_D_judge.2.1 56 = .ok (.getfield 236, 3) := by decide +kernel
theorem d_D_judge_59 : decode m_D_judge.2.1 59 = .ok (.iload_n 2, 1) := by decide +kernel
theorem d_D_judge_60 : decode m_D_judge.2.1 60 = .ok (.isub, 1) := by decide +kernel
theorem d_D_judge_61 : decode m_D_judge.2.1 61 = .ok (.goto 7, 3) := by decide +kernel
theorem d_D_judge_64 : decode m_D_judge.2.1 64 = .ok (.iload 6, 2) := by decide +kernel
theorem d_D_judge_66 : decode m_D_judge.2.1 66 = .ok (.iload_n 1, 1) := by decide +kernel
theorem d_D_judge_67 : decode m_D_judge.2.1 67 = .ok (.isub, 1) := by decide +kernel
theorem d_D_judge_68 : decode m_D_judge.2.1 68 = .ok (.istore 7, 2) := by decide +kernel
theorem d_D_judge_70 : decode m_D_judge.2.1 70 = .ok (.iload 6, 2) := by decide +kernel
theorem d_D_judge_72 : decode m_D_judge.2.1 72 = .ok (.ifCond .lt 10, 3) := by decide +kernel
theorem d_D_judge_75 : decode m_D_judge.2.1 75 = .ok (.iload 7, 2) := by decide +kernel
theorem d_D_judge_77 : decode m_D_judge.2.1 77 = .ok (.iload 4, 2) := by decide +kernel
theorem d_D_judge_79 : decode m_D_judge.2.1 79 = .ok (.if_icmp .lt 12, 3) := by decide +kernel
theorem d_D_judge_82 : decode m_D_judge.2.1 82 = .ok (.aload_n 0, 1) := by decide +kernel
theorem d_D_judge_83 : decode m_D_judge.2.1 83 = .ok (.getfield 95, 3) := by decide +kernel
theorem d_D_judge_86 : decode m_D_judge.2.1 86 = .ok (.bipush 40, 2) := by decide +kernel
theorem d_D_judge_88 : decode m_D_judge.2.1 88 = .ok (.if_icmp .le 4, 3) := by decide +kernel
theorem d_D_judge_91 : decode m_D_judge.2.1 91 = .ok (.return_, 1) := by decide +kernel
theorem d_D_judge_92 : decode m_D_judge.2.1 92 = .ok (.iconst 0, 1) := by decide +kernel
theorem d_D_judge_93 : decode m_D_judge.2.1 93 = .ok (.istore 8, 2) := by decide +kernel
theorem d_D_judge_95 : decode m_D_judge.2.1 95 = .ok (.iload 8, 2) := by decide +kernel
theorem d_D_judge_97 : decode m_D_judge.2.1 97 = .ok (.iload_n 3, 1) := by decide +kernel
theorem d_D_judge_98 : decode m_D_judge.2.1 98 = .ok (.if_icmp .ge 29, 3) := by decide +kernel
theorem d_D_judge_101 : decode m_D_judge.2.1 101 = .ok (.aload_n 0, 1) := by decide +kernel
theorem d_D_judge_102 : decode m_D_judge.2.1 102 = .ok (.getfield 64, 3) := by decide +kernel
theorem d_D_judge_105 : decode m_D_judge.2.1 105 = .ok (.aload_n 0, 1) := by decide +kernel
theorem d_D_judge_106 : decode m_D_judge.2.1 106 = .ok (.getfield 95, 3) := by decide +kernel
theorem d_D_judge_109 : decode m_D_judge.2.1 109 = .ok (.aaload, 1) := by decide +kernel
theorem d_D_judge_110 : decode m_D_judge.2.1 110 = .ok (.iload 8, 2) := by decide +kernel
theorem d_D_judge_112 : decode m_D_judge.2.1 112 = .ok (.aload_n 0, 1) := by decide +kernel
theorem d_D_judge_113 : decode m_D_judge.2.1 113 = .ok (.getfield 59, 3) := by decide +kernel
theorem d_D_judge_116 : decode m_D_judge.2.1 116 = .ok (.iload 8, 2) := by decide +kernel
theorem d_D_judge_118 : decode m_D_judge.2.1 118 = .ok (.iaload, 1) := by decide +kernel
theorem d_D_judge_119 : decode m_D_judge.2.1 119 = .ok (.i2b, 1) := by decide +kernel
theorem d_D_judge_120 : decode m_D_judge.2.1 120 = .ok (.bastore, 1) := by decide +kernel
theorem d_D_judge_121 : decode m_D_judge.2.1 121 = .ok (.iinc 8 1, 3) := by decide +kernel
theorem d_D_judge_124 : decode m_D_judge.2.1 124 = .ok (.goto (-29), 3) := by decide +kernel
theorem d_D_judge_127 : decode m_D_judge.2.1 127 = .ok (.aload_n 0, 1) := by decide +kernel
theorem d_D_judge_128 : decode m_D_judge.2.1 128 = .ok (.getfield 67, 3) := by decide +kernel
theorem d_D_judge_131 : decode m_D_judge.2.1 131 = .ok (.aload_n 0, 1) := by decide +kernel
theorem d_D_judge_132 : decode m_D_judge.2.1 132 = .ok (.getfield 95, 3) := by decide +kernel
theorem d_D_judge_135 : decode m_D_judge.2.1 135 = .ok (.iload_n 3, 1) := by decide +kernel
theorem d_D_judge_136 : decode m_D_judge.2.1 136 = .ok (.iastore, 1) := by decide +kernel
theorem d_D_judge_137 : decode m_D_judge.2.1 137 = .ok (.aload_n 0, 1) := by decide +kernel
theorem d_D_judge_138 : decode m_D_judge.2.1 138 = .ok (.getfield 70, 3) := by decide +kernel
theorem d_D_judge_141 : decode m_D_judge.2.1 141 = .ok (.aload_n 0, 1) := by decide +kernel
theorem d_D_judge_142 : decode m_D_judge.2.1 142 = .ok (.getfield 95, 3) := by decide +kernel
theorem d_D_judge_145 : decode m_D_judge.2.1 145 = .ok (.iload 7, 2) := by decide +kernel
theorem d_D_judge_147 : decode m_D_judge.2.1 147 = .ok (.iastore, 1) := by decide +kernel
theorem d_D_judge_148 : decode m_D_judge.2.1 148 = .ok (.aload_n 0, 1) := by decide +kernel
theorem d_D_judge_149 : decode m_D_judge.2.1 149 = .ok (.dup, 1) := by decide +kernel
theorem d_D_judge_150 : decode m_D_judge.2.1 150 = .ok (.getfield 95, 3) := by decide +kernel
theorem d_D_judge_153 : decode m_D_judge.2.1 153 = .ok (.iconst 1, 1) := by decide +kernel
theorem d_D_judge_154 : decode m_D_judge.2.1 154 = .ok (.iadd, 1) := by decide +kernel
theorem d_D_judge_155 : decode m_D_judge.2.1 155 = .ok (.putfield 95, 3) := by decide +kernel
theorem d_D_judge_158 : decode m_D_judge.2.1 158 = .ok (.return_, 1) := by decide +kernel
theorem d_D_reach_0 : decode m_D_reach.2.1 0 = .ok (.aload_n 0, 1) := by decide +kernel
theorem d_D_reach_1 : decode m_D_reach.2.1 1 = .ok (.iload_n 1, 1) := by decide +kernel
theorem d_D_reach_2 : decode m_D_reach.2.1 2 = .ok (.invokevirtual 260, 3) := by decide +kernel
theorem d_D_reach_5 : decode m_D_reach.2.1 5 = .ok (.aload_n 0, 1) := by decide +kernel
theorem d_D_reach_6 : decode m_D_reach.2.1 6 = .ok (.getfield 70, 3) := by decide +kernel
theorem d_D_reach_9 : decode m_D_reach.2.1 9 = .ok (.iload_n 1, 1) := by decide +kernel
theorem d_D_reach_10 : decode m_D_reach.2.1 10 = .ok (.iaload, 1) := by decide +kernel
theorem d_D_reach_11 : decode m_D_reach.2.1 11 = .ok (.ireturn, 1) := by decide +kernel
theorem d_D_there_0 : decode m_D_there.2.1 0 = .ok (.iload_n 1, 1) := by decide +kernel
theorem d_D_there_1 : decode m_D_there.2.1 1 = .ok (.ifCond .lt 11, 3) := by decide +kernel
theorem d_D_there_4 : decode m_D_there.2.1 4 = .ok (.iload_n 1, 1) := by decide +kernel
theorem d_D_there_5 : decode m_D_there.2.1 5 = .ok (.aload_n 0, 1) := by decide +kernel
theorem d_D_there_6 : decode m_D_there.2.1 6 = .ok (.getfield 95, 3) := by decide +kernel
theorem d_D_there_9 : decode m_D_there.2.1 9 = .ok (.if_icmp .lt 11, 3) := by decide +kernel
theorem d_D_there_12 : decode m_D_there.2.1 12 = .ok (.new 257, 3) := by decide +kernel
theorem d_D_there_15 : decode m_D_there.2.1 15 = .ok (.dup, 1) := by decide +kernel
theorem d_D_there_16 : decode m_D_there.2.1 16 = .ok (.invokespecial 259, 3) := by decide +kernel
theorem d_D_there_19 : decode m_D_there.2.1 19 = .ok (.athrow, 1) := by decide +kernel
theorem d_D_there_20 : decode m_D_there.2.1 20 = .ok (.return_, 1) := by decide +kernel
theorem d_D_apply_0 : decode m_D_apply.2.1 0 = .ok (.aload_n 0, 1) := by decide +kernel
theorem d_D_apply_1 : decode m_D_apply.2.1 1 = .ok (.iload_n 1, 1) := by decide +kernel
theorem d_D_apply_2 : decode m_D_apply.2.1 2 = .ok (.invokevirtual 260, 3) := by decide +kernel
theorem d_D_apply_5 : decode m_D_apply.2.1 5 = .ok (.aload_n 0, 1) := by decide +kernel
theorem d_D_apply_6 : decode m_D_apply.2.1 6 = .ok (.getfield 64, 3) := by decide +kernel
theorem d_D_apply_9 : decode m_D_apply.2.1 9 = .ok (.iload_n 1, 1) := by decide +kernel
theorem d_D_apply_10 : decode m_D_apply.2.1 10 = .ok (.aaload, 1) := by decide +kernel
theorem d_D_apply_11 : decode m_D_apply.2.1 11 = .ok (.astore_n 2, 1) := by decide +kernel
theorem d_D_apply_12 : decode m_D_apply.2.1 12 = .ok (.aload_n 0, 1) := by decide +kernel
theorem d_D_apply_13 : decode m_D_apply.2.1 13 = .ok (.aload_n 0, 1) := by decide +kernel
theorem d_D_apply_14 : decode m_D_apply.2.1 14 = .ok (.getfield 32, 3) := by decide +kernel
theorem d_D_apply_17 : decode m_D_apply.2.1 17 = .ok (.aload_n 0, 1) := by decide +kernel
theorem d_D_apply_18 : decode m_D_apply.2.1 18 = .ok (.getfield 236, 3) := by decide +kernel
theorem d_D_apply_21 : decode m_D_apply.2.1 21 = .ok (.invokevirtual 238, 3) := by decide +kernel
theorem d_D_apply_24 : decode m_D_apply.2.1 24 = .ok (.istore_n 3, 1) := by decide +kernel
theorem d_D_apply_25 : decode m_D_apply.2.1 25 = .ok (.iconst 0, 1) := by decide +kernel
theorem d_D_apply_26 : decode m_D_apply.2.1 26 = .ok (.istore 4, 2) := by decide +kernel
theorem d_D_apply_28 : decode m_D_apply.2.1 28 = .ok (.iconst 0, 1) := by decide +kernel
theorem d_D_apply_29 : decode m_D_apply.2.1 29 = .ok (.istore 5, 2) := by decide +kernel
theorem d_D_apply_31 : decode m_D_apply.2.1 31 = .ok (.iload 5, 2) := by decide +kernel
theorem d_D_apply_33 : decode m_D_apply.2.1 33 = .ok (.iload_n 3, 1) := by decide +kernel
theorem d_D_apply_34 : decode m_D_apply.2.1 34 = .ok (.if_icmp .ge 26, 3) := by decide +kernel
theorem d_D_apply_37 : decode m_D_apply.2.1 37 = .ok (.aload_n 0, 1) := by decide +kernel
theorem d_D_apply_38 : decode m_D_apply.2.1 38 = .ok (.getfield 56, 3) := by decide +kernel
theorem d_D_apply_41 : decode m_D_apply.2.1 41 = .ok (.iload 4, 2) := by decide +kernel
theorem d_D_apply_43 : decode m_D_apply.2.1 43 = .ok (.iinc 4 1, 3) := by decide +kernel
theorem d_D_apply_46 : decode m_D_apply.2.1 46 = .ok (.aload_n 0, 1) := by decide +kernel
theorem d_D_apply_47 : decode m_D_apply.2.1 47 = .ok (.getfield 32, 3) := by decide +kernel
theorem d_D_apply_50 : decode m_D_apply.2.1 50 = .ok (.iload 5, 2) := by decide +kernel
theorem d_D_apply_52 : decode m_D_apply.2.1 52 = .ok (.iaload, 1) := by decide +kernel
theorem d_D_apply_53 : decode m_D_apply.2.1 53 = .ok (.iastore, 1) := by decide +kernel
theorem d_D_apply_54 : decode m_D_apply.2.1 54 = .ok (.iinc 5 1, 3) := by decide +kernel
theorem d_D_apply_57 : decode m_D_apply.2.1 57 = .ok (.goto (-26), 3) := by decide +kernel
theorem d_D_apply_60 : decode m_D_apply.2.1 60 = .ok (.iconst 0, 1) := by decide +kernel
theorem d_D_apply_61 : decode m_D_apply.2.1 61 = .ok (.istore 5, 2) := by decide +kernel
theorem d_D_apply_63 : decode m_D_apply.2.1 63 = .ok (.iload 5, 2) := by decide +kernel
theorem d_D_apply_65 : decode m_D_apply.2.1 65 = .ok (.aload_n 0, 1) := by decide +kernel
theorem d_D_apply_66 : decode m_D_apply.2.1 66 = .ok (.getfield 67, 3) := by decide +kernel
theorem d_D_apply_69 : decode m_D_apply.2.1 69 = .ok (.iload_n 1, 1) := by decide +kernel
theorem d_D_apply_70 : decode m_D_apply.2.1 70 = .ok (.iaload, 1) := by decide +kernel
theorem d_D_apply_71 : decode m_D_apply.2.1 71 = .ok (.if_icmp .ge 67, 3) := by decide +kernel
theorem d_D_apply_74 : decode m_D_apply.2.1 74 = .ok (.aload_n 2, 1) := by decide +kernel
theorem d_D_apply_75 : decode m_D_apply.2.1 75 = .ok (.iload 5, 2) := by decide +kernel
theorem d_D_apply_77 : decode m_D_apply.2.1 77 = .ok (.baload, 1) := by decide +kernel
theorem d_D_apply_78 : decode m_D_apply.2.1 78 = .ok (.bipush 6, 2) := by decide +kernel
theorem d_D_apply_80 : decode m_D_apply.2.1 80 = .ok (.if_icmp .eq 35, 3) := by decide +kernel
theorem d_D_apply_83 : decode m_D_apply.2.1 83 = .ok (.aload_n 0, 1) := by decide +kernel
theorem d_D_apply_84 : decode m_D_apply.2.1 84 = .ok (.getfield 56, 3) := by decide +kernel
theorem d_D_apply_87 : decode m_D_apply.2.1 87 = .ok (.iload 4, 2) := by decide +kernel
theorem d_D_apply_89 : decode m_D_apply.2.1 89 = .ok (.iinc 4 1, 3) := by decide +kernel
theorem d_D_apply_92 : decode m_D_apply.2.1 92 = .ok (.aload_n 2, 1) := by decide +kernel
theorem d_D_apply_93 : decode m_D_apply.2.1 93 = .ok (.iload 5, 2) := by decide +kernel
theorem d_D_apply_95 : decode m_D_apply.2.1 95 = .ok (.baload, 1) := by decide +kernel
theorem d_D_apply_96 : decode m_D_apply.2.1 96 = .ok (.bipush 7, 2) := by decide +kernel
theorem d_D_apply_98 : decode m_D_apply.2.1 98 = .ok (.if_icmp .ne 12, 3) := by decide +kernel
theorem d_D_apply_101 : decode m_D_apply.2.1 101 = .ok (.aload_n 0, 1) := by decide +kernel
theorem d_D_apply_102 : decode m_D_apply.2.1 102 = .ok (.getfield 32, 3) := by decide +kernel
theorem d_D_apply_105 : decode m_D_apply.2.1 105 = .ok (.iload_n 3, 1) := by decide +kernel
theorem d_D_apply_106 : decode m_D_apply.2.1 106 = .ok (.iaload, 1) := by decide +kernel
theorem d_D_apply_107 : decode m_D_apply.2.1 107 = .ok (.goto 7, 3) := by decide +kernel
theorem d_D_apply_110 : decode m_D_apply.2.1 110 = .ok (.aload_n 2, 1) := by decide +kernel
theorem d_D_apply_111 : decode m_D_apply.2.1 111 = .ok (.iload 5, 2) := by decide +kernel
theorem d_D_apply_113 : decode m_D_apply.2.1 113 = .ok (.baload, 1) := by decide +kernel
theorem d_D_apply_114 : decode m_D_apply.2.1 114 = .ok (.iastore, 1) := by decide +kernel
theorem d_D_apply_115 : decode m_D_apply.2.1 115 = .ok (.iload_n 3, 1) := by decide +kernel
theorem d_D_apply_116 : decode m_D_apply.2.1 116 = .ok (.aload_n 2, 1) := by decide +kernel
theorem d_D_apply_117 : decode m_D_apply.2.1 117 = .ok (.iload 5, 2) := by decide +kernel
theorem d_D_apply_119 : decode m_D_apply.2.1 119 = .ok (.baload, 1) := by decide +kernel
theorem d_D_apply_120 : decode m_D_apply.2.1 120 = .ok (.bipush 6, 2) := by decide +kernel
theorem d_D_apply_122 : decode m_D_apply.2.1 122 = .ok (.if_icmp .lt 7, 3) := by decide +kernel
theorem d_D_apply_125 : decode m_D_apply.2.1 125 = .ok (.iconst 1, 1) := by decide +kernel
theorem d_D_apply_126 : decode m_D_apply.2.1 126 = .ok (.goto 4, 3) := by decide +kernel
theorem d_D_apply_129 : decode m_D_apply.2.1 129 = .ok (.iconst 0, 1) := by decide +kernel
theorem d_D_apply_130 : decode m_D_apply.2.1 130 = .ok (.iadd, 1) := by decide +kernel
theorem d_D_apply_131 : decode m_D_apply.2.1 131 = .ok (.istore_n 3, 1) := by decide +kernel
theorem d_D_apply_132 : decode m_D_apply.2.1 132 = .ok (.iinc 5 1, 3) := by decide +kernel
theorem d_D_apply_135 : decode m_D_apply.2.1 135 = .ok (.goto (-72), 3) := by decide +kernel
theorem d_D_apply_138 : decode m_D_apply.2.1 138 = .ok (.iload_n 3, 1) := by decide +kernel
theorem d_D_apply_139 : decode m_D_apply.2.1 139 = .ok (.istore 5, 2) := by decide +kernel
theorem d_D_apply_141 : decode m_D_apply.2.1 141 = .ok (.iload 5, 2) := by decide +kernel
theorem d_D_apply_143 : decode m_D_apply.2.1 143 = .ok (.aload_n 0, 1) := by decide +kernel
theorem d_D_apply_144 : decode m_D_apply.2.1 144 = .ok (.getfield 236, 3) := by decide +kernel
theorem d_D_apply_147 : decode m_D_apply.2.1 147 = .ok (.if_icmp .ge 26, 3) := by decide +kernel
theorem d_D_apply_150 : decode m_D_apply.2.1 150 = .ok (.aload_n 0, 1) := by decide +kernel
theorem d_D_apply_151 : decode m_D_apply.2.1 151 = .ok (.getfield 56, 3) := by decide +kernel
theorem d_D_apply_154 : decode m_D_apply.2.1 154 = .ok (.iload 4, 2) := by decide +kernel
theorem d_D_apply_156 : decode m_D_apply.2.1 156 = .ok (.iinc 4 1, 3) := by decide +kernel
theorem d_D_apply_159 : decode m_D_apply.2.1 159 = .ok (.aload_n 0, 1) := by decide +kernel
theorem d_D_apply_160 : decode m_D_apply.2.1 160 = .ok (.getfield 32, 3) := by decide +kernel
theorem d_D_apply_163 : decode m_D_apply.2.1 163 = .ok (.iload 5, 2) := by decide +kernel
theorem d_D_apply_165 : decode m_D_apply.2.1 165 = .ok (.iaload, 1) := by decide +kernel
theorem d_D_apply_166 : decode m_D_apply.2.1 166 = .ok (.iastore, 1) := by decide +kernel
theorem d_D_apply_167 : decode m_D_apply.2.1 167 = .ok (.iinc 5 1, 3) := by decide +kernel
theorem d_D_apply_170 : decode m_D_apply.2.1 170 = .ok (.goto (-29), 3) := by decide +kernel
theorem d_D_apply_173 : decode m_D_apply.2.1 173 = .ok (.iload 4, 2) := by decide +kernel
theorem d_D_apply_175 : decode m_D_apply.2.1 175 = .ok (.bipush 16, 2) := by decide +kernel
theorem d_D_apply_177 : decode m_D_apply.2.1 177 = .ok (.if_icmp .gt 7, 3) := by decide +kernel
theorem d_D_apply_180 : decode m_D_apply.2.1 180 = .ok (.iconst 1, 1) := by decide +kernel
theorem d_D_apply_181 : decode m_D_apply.2.1 181 = .ok (.goto 4, 3) := by decide +kernel
theorem d_D_apply_184 : decode m_D_apply.2.1 184 = .ok (.iconst 0, 1) := by decide +kernel
theorem d_D_apply_185 : decode m_D_apply.2.1 185 = .ok (.invokestatic 139, 3) := by decide +kernel
theorem d_D_apply_188 : decode m_D_apply.2.1 188 = .ok (.iconst 0, 1) := by decide +kernel
theorem d_D_apply_189 : decode m_D_apply.2.1 189 = .ok (.istore 5, 2) := by decide +kernel
theorem d_D_apply_191 : decode m_D_apply.2.1 191 = .ok (.iload 5, 2) := by decide +kernel
theorem d_D_apply_193 : decode m_D_apply.2.1 193 = .ok (.iload 4, 2) := by decide +kernel
theorem d_D_apply_195 : decode m_D_apply.2.1 195 = .ok (.if_icmp .ge 23, 3) := by decide +kernel
theorem d_D_apply_198 : decode m_D_apply.2.1 198 = .ok (.aload_n 0, 1) := by decide +kernel
theorem d_D_apply_199 : decode m_D_apply.2.1 199 = .ok (.getfield 32, 3) := by decide +kernel
theorem d_D_apply_202 : decode m_D_apply.2.1 202 = .ok (.iload 5, 2) := by decide +kernel
theorem d_D_apply_204 : decode m_D_apply.2.1 204 = .ok (.aload_n 0, 1) := by decide +kernel
theorem d_D_apply_205 : decode m_D_apply.2.1 205 = .ok (.getfield 56, 3) := by decide +kernel
theorem d_D_apply_208 : decode m_D_apply.2.1 208 = .ok (.iload 5, 2) := by decide +kernel
theorem d_D_apply_210 : decode m_D_apply.2.1 210 = .ok (.iaload, 1) := by decide +kernel
theorem d_D_apply_211 : decode m_D_apply.2.1 211 = .ok (.iastore, 1) := by decide +kernel
theorem d_D_apply_212 : decode m_D_apply.2.1 212 = .ok (.iinc 5 1, 3) := by decide +kernel
theorem d_D_apply_215 : decode m_D_apply.2.1 215 = .ok (.goto (-24), 3) := by decide +kernel
theorem d_D_apply_218 : decode m_D_apply.2.1 218 = .ok (.aload_n 0, 1) := by decide +kernel
theorem d_D_apply_219 : decode m_D_apply.2.1 219 = .ok (.iload 4, 2) := by decide +kernel
theorem d_D_apply_221 : decode m_D_apply.2.1 221 = .ok (.putfield 236, 3) := by decide +kernel
theorem d_D_apply_224 : decode m_D_apply.2.1 224 = .ok (.aload_n 0, 1) := by decide +kernel
theorem d_D_apply_225 : decode m_D_apply.2.1 225 = .ok (.invokevirtual 150, 3) := by decide +kernel
theorem d_D_apply_228 : decode m_D_apply.2.1 228 = .ok (.iload 4, 2) := by decide +kernel
theorem d_D_apply_230 : decode m_D_apply.2.1 230 = .ok (.ireturn, 1) := by decide +kernel
