/-! decode rows (printed by gen/names.py) -/
theorem d_P_init_0 : decode m_P_init.2.1 0 = .ok (.aload_n 0, 1) := by decide +kernel
theorem d_P_init_1 : decode m_P_init.2.1 1 = .ok (.invokespecial 1, 3) := by decide +kernel
theorem d_P_init_4 : decode m_P_init.2.1 4 = .ok (.aload_n 0, 1) := by decide +kernel
theorem d_P_init_5 : decode m_P_init.2.1 5 = .ok (.bipush 10, 2) := by decide +kernel
theorem d_P_init_7 : decode m_P_init.2.1 7 = .ok (.newarray .char, 2) := by decide +kernel
theorem d_P_init_9 : decode m_P_init.2.1 9 = .ok (.putfield 7, 3) := by decide +kernel
theorem d_P_init_12 : decode m_P_init.2.1 12 = .ok (.aload_n 0, 1) := by decide +kernel
theorem d_P_init_13 : decode m_P_init.2.1 13 = .ok (.bipush 11, 2) := by decide +kernel
theorem d_P_init_15 : decode m_P_init.2.1 15 = .ok (.newarray .int, 2) := by decide +kernel
theorem d_P_init_17 : decode m_P_init.2.1 17 = .ok (.putfield 13, 3) := by decide +kernel
theorem d_P_init_20 : decode m_P_init.2.1 20 = .ok (.aload_n 0, 1) := by decide +kernel
theorem d_P_init_21 : decode m_P_init.2.1 21 = .ok (.bipush 11, 2) := by decide +kernel
theorem d_P_init_23 : decode m_P_init.2.1 23 = .ok (.newarray .int, 2) := by decide +kernel
theorem d_P_init_25 : decode m_P_init.2.1 25 = .ok (.putfield 17, 3) := by decide +kernel
theorem d_P_init_28 : decode m_P_init.2.1 28 = .ok (.aload_n 0, 1) := by decide +kernel
theorem d_P_init_29 : decode m_P_init.2.1 29 = .ok (.bipush 44, 2) := by decide +kernel
theorem d_P_init_31 : decode m_P_init.2.1 31 = .ok (.newarray .int, 2) := by decide +kernel
theorem d_P_init_33 : decode m_P_init.2.1 33 = .ok (.putfield 20, 3) := by decide +kernel
theorem d_P_init_36 : decode m_P_init.2.1 36 = .ok (.aload_n 0, 1) := by decide +kernel
theorem d_P_init_37 : decode m_P_init.2.1 37 = .ok (.bipush 11, 2) := by decide +kernel
theorem d_P_init_39 : decode m_P_init.2.1 39 = .ok (.newarray .boolean, 2) := by decide +kernel
theorem d_P_init_41 : decode m_P_init.2.1 41 = .ok (.putfield 23, 3) := by decide +kernel
theorem d_P_init_44 : decode m_P_init.2.1 44 = .ok (.aload_n 0, 1) := by decide +kernel
theorem d_P_init_45 : decode m_P_init.2.1 45 = .ok (.bipush 6, 2) := by decide +kernel
theorem d_P_init_47 : decode m_P_init.2.1 47 = .ok (.newarray .boolean, 2) := by decide +kernel
theorem d_P_init_49 : decode m_P_init.2.1 49 = .ok (.putfield 27, 3) := by decide +kernel
theorem d_P_init_52 : decode m_P_init.2.1 52 = .ok (.aload_n 0, 1) := by decide +kernel
theorem d_P_init_53 : decode m_P_init.2.1 53 = .ok (.bipush 6, 2) := by decide +kernel
theorem d_P_init_55 : decode m_P_init.2.1 55 = .ok (.newarray .boolean, 2) := by decide +kernel
theorem d_P_init_57 : decode m_P_init.2.1 57 = .ok (.putfield 30, 3) := by decide +kernel
theorem d_P_init_60 : decode m_P_init.2.1 60 = .ok (.aload_n 0, 1) := by decide +kernel
theorem d_P_init_61 : decode m_P_init.2.1 61 = .ok (.bipush 6, 2) := by decide +kernel
theorem d_P_init_63 : decode m_P_init.2.1 63 = .ok (.newarray .int, 2) := by decide +kernel
theorem d_P_init_65 : decode m_P_init.2.1 65 = .ok (.putfield 33, 3) := by decide +kernel
theorem d_P_init_68 : decode m_P_init.2.1 68 = .ok (.aload_n 0, 1) := by decide +kernel
theorem d_P_init_69 : decode m_P_init.2.1 69 = .ok (.sipush 2310, 3) := by decide +kernel
theorem d_P_init_72 : decode m_P_init.2.1 72 = .ok (.newarray .int, 2) := by decide +kernel
theorem d_P_init_74 : decode m_P_init.2.1 74 = .ok (.putfield 36, 3) := by decide +kernel
theorem d_P_init_77 : decode m_P_init.2.1 77 = .ok (.aload_n 0, 1) := by decide +kernel
theorem d_P_init_78 : decode m_P_init.2.1 78 = .ok (.sipush 492, 3) := by decide +kernel
theorem d_P_init_81 : decode m_P_init.2.1 81 = .ok (.newarray .int, 2) := by decide +kernel
theorem d_P_init_83 : decode m_P_init.2.1 83 = .ok (.putfield 39, 3) := by decide +kernel
theorem d_P_init_86 : decode m_P_init.2.1 86 = .ok (.aload_n 0, 1) := by decide +kernel
theorem d_P_init_87 : decode m_P_init.2.1 87 = .ok (.bipush 16, 2) := by decide +kernel
theorem d_P_init_89 : decode m_P_init.2.1 89 = .ok (.newarray .int, 2) := by decide +kernel
theorem d_P_init_91 : decode m_P_init.2.1 91 = .ok (.putfield 42, 3) := by decide +kernel
theorem d_P_init_94 : decode m_P_init.2.1 94 = .ok (.aload_n 0, 1) := by decide +kernel
theorem d_P_init_95 : decode m_P_init.2.1 95 = .ok (.bipush 24, 2) := by decide +kernel
theorem d_P_init_97 : decode m_P_init.2.1 97 = .ok (.newarray .int, 2) := by decide +kernel
theorem d_P_init_99 : decode m_P_init.2.1 99 = .ok (.putfield 45, 3) := by decide +kernel
theorem d_P_init_102 : decode m_P_init.2.1 102 = .ok (.aload_n 0, 1) := by decide +kernel
theorem d_P_init_103 : decode m_P_init.2.1 103 = .ok (.sipush 400, 3) := by decide +kernel
theorem d_P_init_106 : decode m_P_init.2.1 106 = .ok (.newarray .int, 2) := by decide +kernel
theorem d_P_init_108 : decode m_P_init.2.1 108 = .ok (.putfield 48, 3) := by decide +kernel
theorem d_P_init_111 : decode m_P_init.2.1 111 = .ok (.aload_n 0, 1) := by decide +kernel
theorem d_P_init_112 : decode m_P_init.2.1 112 = .ok (.bipush 6, 2) := by decide +kernel
theorem d_P_init_114 : decode m_P_init.2.1 114 = .ok (.newarray .int, 2) := by decide +kernel
theorem d_P_init_116 : decode m_P_init.2.1 116 = .ok (.putfield 51, 3) := by decide +kernel
theorem d_P_init_119 : decode m_P_init.2.1 119 = .ok (.aload_n 0, 1) := by decide +kernel
theorem d_P_init_120 : decode m_P_init.2.1 120 = .ok (.bipush 6, 2) := by decide +kernel
theorem d_P_init_122 : decode m_P_init.2.1 122 = .ok (.newarray .int, 2) := by decide +kernel
theorem d_P_init_124 : decode m_P_init.2.1 124 = .ok (.putfield 54, 3) := by decide +kernel
theorem d_P_init_127 : decode m_P_init.2.1 127 = .ok (.aload_n 0, 1) := by decide +kernel
theorem d_P_init_128 : decode m_P_init.2.1 128 = .ok (.sipush 280, 3) := by decide +kernel
theorem d_P_init_131 : decode m_P_init.2.1 131 = .ok (.newarray .int, 2) := by decide +kernel
theorem d_P_init_133 : decode m_P_init.2.1 133 = .ok (.putfield 57, 3) := by decide +kernel
theorem d_P_init_136 : decode m_P_init.2.1 136 = .ok (.aload_n 0, 1) := by decide +kernel
theorem d_P_init_137 : decode m_P_init.2.1 137 = .ok (.bipush 40, 2) := by decide +kernel
theorem d_P_init_139 : decode m_P_init.2.1 139 = .ok (.newarray .int, 2) := by decide +kernel
theorem d_P_init_141 : decode m_P_init.2.1 141 = .ok (.putfield 60, 3) := by decide +kernel
theorem d_P_init_144 : decode m_P_init.2.1 144 = .ok (.aload_n 0, 1) := by decide +kernel
theorem d_P_init_145 : decode m_P_init.2.1 145 = .ok (.bipush 8, 2) := by decide +kernel
theorem d_P_init_147 : decode m_P_init.2.1 147 = .ok (.newarray .int, 2) := by decide +kernel
theorem d_P_init_149 : decode m_P_init.2.1 149 = .ok (.putfield 63, 3) := by decide +kernel
theorem d_P_init_152 : decode m_P_init.2.1 152 = .ok (.iconst 0, 1) := by decide +kernel
theorem d_P_init_153 : decode m_P_init.2.1 153 = .ok (.istore_n 1, 1) := by decide +kernel
theorem d_P_init_154 : decode m_P_init.2.1 154 = .ok (.iload_n 1, 1) := by decide +kernel
theorem d_P_init_155 : decode m_P_init.2.1 155 = .ok (.bipush 6, 2) := by decide +kernel
theorem d_P_init_157 : decode m_P_init.2.1 157 = .ok (.if_icmp .ge 23, 3) := by decide +kernel
theorem d_P_init_160 : decode m_P_init.2.1 160 = .ok (.aload_n 0, 1) := by decide +kernel
theorem d_P_init_161 : decode m_P_init.2.1 161 = .ok (.getfield 51, 3) := by decide +kernel
theorem d_P_init_164 : decode m_P_init.2.1 164 = .ok (.iload_n 1, 1) := by decide +kernel
theorem d_P_init_165 : decode m_P_init.2.1 165 = .ok (.iconst 1, 1) := by decide +kernel
theorem d_P_init_166 : decode m_P_init.2.1 166 = .ok (.iastore, 1) := by decide +kernel
theorem d_P_init_167 : decode m_P_init.2.1 167 = .ok (.aload_n 0, 1) := by decide +kernel
theorem d_P_init_168 : decode m_P_init.2.1 168 = .ok (.getfield 54, 3) := by decide +kernel
theorem d_P_init_171 : decode m_P_init.2.1 171 = .ok (.iload_n 1, 1) := by decide +kernel
theorem d_P_init_172 : decode m_P_init.2.1 172 = .ok (.iconst 1, 1) := by decide +kernel
theorem d_P_init_173 : decode m_P_init.2.1 173 = .ok (.iastore, 1) := by decide +kernel
theorem d_P_init_174 : decode m_P_init.2.1 174 = .ok (.iinc 1 1, 3) := by decide +kernel
theorem d_P_init_177 : decode m_P_init.2.1 177 = .ok (.goto (-23), 3) := by decide +kernel
theorem d_P_init_180 : decode m_P_init.2.1 180 = .ok (.return_, 1) := by decide +kernel
theorem d_P_thrown_0 : decode m_P_thrown.2.1 0 = .ok (.aload_n 0, 1) := by decide +kernel
theorem d_P_thrown_1 : decode m_P_thrown.2.1 1 = .ok (.getfield 66, 3) := by decide +kernel
theorem d_P_thrown_4 : decode m_P_thrown.2.1 4 = .ok (.ireturn, 1) := by decide +kernel
theorem d_P_write_0 : decode m_P_write.2.1 0 = .ok (.aload_n 0, 1) := by decide +kernel
theorem d_P_write_1 : decode m_P_write.2.1 1 = .ok (.iconst 0, 1) := by decide +kernel
theorem d_P_write_2 : decode m_P_write.2.1 2 = .ok (.putfield 66, 3) := by decide +kernel
theorem d_P_write_5 : decode m_P_write.2.1 5 = .ok (.iload_n 1, 1) := by decide +kernel
theorem d_P_write_6 : decode m_P_write.2.1 6 = .ok (.bipush 32, 2) := by decide +kernel
theorem d_P_write_8 : decode m_P_write.2.1 8 = .ok (.if_icmp .lt 18, 3) := by decide +kernel
theorem d_P_write_11 : decode m_P_write.2.1 11 = .ok (.iload_n 1, 1) := by decide +kernel
theorem d_P_write_12 : decode m_P_write.2.1 12 = .ok (.bipush 126, 2) := by decide +kernel
theorem d_P_write_14 : decode m_P_write.2.1 14 = .ok (.if_icmp .gt 12, 3) := by decide +kernel
theorem d_P_write_17 : decode m_P_write.2.1 17 = .ok (.aload_n 0, 1) := by decide +kernel
theorem d_P_write_18 : decode m_P_write.2.1 18 = .ok (.getfield 70, 3) := by decide +kernel
theorem d_P_write_21 : decode m_P_write.2.1 21 = .ok (.bipush 10, 2) := by decide +kernel
theorem d_P_write_23 : decode m_P_write.2.1 23 = .ok (.if_icmp .lt 5, 3) := by decide +kernel
theorem d_P_write_26 : decode m_P_write.2.1 26 = .ok (.iconst 0, 1) := by decide +kernel
theorem d_P_write_27 : decode m_P_write.2.1 27 = .ok (.ireturn, 1) := by decide +kernel
theorem d_P_write_28 : decode m_P_write.2.1 28 = .ok (.aload_n 0, 1) := by decide +kernel
theorem d_P_write_29 : decode m_P_write.2.1 29 = .ok (.getfield 7, 3) := by decide +kernel
theorem d_P_write_32 : decode m_P_write.2.1 32 = .ok (.aload_n 0, 1) := by decide +kernel
theorem d_P_write_33 : decode m_P_write.2.1 33 = .ok (.getfield 70, 3) := by decide +kernel
theorem d_P_write_36 : decode m_P_write.2.1 36 = .ok (.iload_n 1, 1) := by decide +kernel
theorem d_P_write_37 : decode m_P_write.2.1 37 = .ok (.castore, 1) := by decide +kernel
theorem d_P_write_38 : decode m_P_write.2.1 38 = .ok (.aload_n 0, 1) := by decide +kernel
theorem d_P_write_39 : decode m_P_write.2.1 39 = .ok (.dup, 1) := by decide +kernel
theorem d_P_write_40 : decode m_P_write.2.1 40 = .ok (.getfield 70, 3) := by decide +kernel
theorem d_P_write_43 : decode m_P_write.2.1 43 = .ok (.iconst 1, 1) := by decide +kernel
theorem d_P_write_44 : decode m_P_write.2.1 44 = .ok (.iadd, 1) := by decide +kernel
theorem d_P_write_45 : decode m_P_write.2.1 45 = .ok (.putfield 70, 3) := by decide +kernel
theorem d_P_write_48 : decode m_P_write.2.1 48 = .ok (.iconst 1, 1) := by decide +kernel
theorem d_P_write_49 : decode m_P_write.2.1 49 = .ok (.ireturn, 1) := by decide +kernel
theorem d_P_rule_0 : decode m_P_rule.2.1 0 = .ok (.aload_n 0, 1) := by decide +kernel
theorem d_P_rule_1 : decode m_P_rule.2.1 1 = .ok (.iconst 0, 1) := by decide +kernel
theorem d_P_rule_2 : decode m_P_rule.2.1 2 = .ok (.putfield 66, 3) := by decide +kernel
theorem d_P_rule_5 : decode m_P_rule.2.1 5 = .ok (.aload_n 0, 1) := by decide +kernel
theorem d_P_rule_6 : decode m_P_rule.2.1 6 = .ok (.getfield 70, 3) := by decide +kernel
theorem d_P_rule_9 : decode m_P_rule.2.1 9 = .ok (.istore_n 1, 1) := by decide +kernel
theorem d_P_rule_10 : decode m_P_rule.2.1 10 = .ok (.aload_n 0, 1) := by decide +kernel
theorem d_P_rule_11 : decode m_P_rule.2.1 11 = .ok (.iconst 0, 1) := by decide +kernel
theorem d_P_rule_12 : decode m_P_rule.2.1 12 = .ok (.putfield 70, 3) := by decide +kernel
theorem d_P_rule_15 : decode m_P_rule.2.1 15 = .ok (.iload_n 1, 1) := by decide +kernel
theorem d_P_rule_16 : decode m_P_rule.2.1 16 = .ok (.iconst 2, 1) := by decide +kernel
theorem d_P_rule_17 : decode m_P_rule.2.1 17 = .ok (.if_icmp .lt 36, 3) := by decide +kernel
theorem d_P_rule_20 : decode m_P_rule.2.1 20 = .ok (.iload_n 1, 1) := by decide +kernel
theorem d_P_rule_21 : decode m_P_rule.2.1 21 = .ok (.bipush 6, 2) := by decide +kernel
theorem d_P_rule_23 : decode m_P_rule.2.1 23 = .ok (.if_icmp .gt 30, 3) := by decide +kernel
theorem d_P_rule_26 : decode m_P_rule.2.1 26 = .ok (.aload_n 0, 1) := by decide +kernel
theorem d_P_rule_27 : decode m_P_rule.2.1 27 = .ok (.getfield 7, 3) := by decide +kernel
theorem d_P_rule_30 : decode m_P_rule.2.1 30 = .ok (.iconst 0, 1) := by decide +kernel
theorem d_P_rule_31 : decode m_P_rule.2.1 31 = .ok (.caload, 1) := by decide +kernel
theorem d_P_rule_32 : decode m_P_rule.2.1 32 = .ok (.invokestatic 79, 3) := by decide +kernel
theorem d_P_rule_35 : decode m_P_rule.2.1 35 = .ok (.ifCond .eq 18, 3) := by decide +kernel
theorem d_P_rule_38 : decode m_P_rule.2.1 38 = .ok (.aload_n 0, 1) := by decide +kernel
theorem d_P_rule_39 : decode m_P_rule.2.1 39 = .ok (.getfield 7, 3) := by decide +kernel
theorem d_P_rule_42 : decode m_P_rule.2.1 42 = .ok (.iconst 1, 1) := by decide +kernel
theorem d_P_rule_43 : decode m_P_rule.2.1 43 = .ok (.caload, 1) := by decide +kernel
theorem d_P_rule_44 : decode m_P_rule.2.1 44 = .ok (.bipush 61, 2) := by decide +kernel
theorem d_P_rule_46 : decode m_P_rule.2.1 46 = .ok (.if_icmp .ne 7, 3) := by decide +kernel
theorem d_P_rule_49 : decode m_P_rule.2.1 49 = .ok (.iconst 1, 1) := by decide +kernel
theorem d_P_rule_50 : decode m_P_rule.2.1 50 = .ok (.goto 4, 3) := by decide +kernel
theorem d_P_rule_53 : decode m_P_rule.2.1 53 = .ok (.iconst 0, 1) := by decide +kernel
theorem d_P_rule_54 : decode m_P_rule.2.1 54 = .ok (.istore_n 2, 1) := by decide +kernel
theorem d_P_rule_55 : decode m_P_rule.2.1 55 = .ok (.iconst 2, 1) := by decide +kernel
theorem d_P_rule_56 : decode m_P_rule.2.1 56 = .ok (.istore_n 3, 1) := by decide +kernel
theorem d_P_rule_57 : decode m_P_rule.2.1 57 = .ok (.iload_n 3, 1) := by decide +kernel
theorem d_P_rule_58 : decode m_P_rule.2.1 58 = .ok (.iload_n 1, 1) := by decide +kernel
theorem d_P_rule_59 : decode m_P_rule.2.1 59 = .ok (.if_icmp .ge 43, 3) := by decide +kernel
theorem d_P_rule_62 : decode m_P_rule.2.1 62 = .ok (.iload_n 2, 1) := by decide +kernel
theorem d_P_rule_63 : decode m_P_rule.2.1 63 = .ok (.ifCond .eq 39, 3) := by decide +kernel
theorem d_P_rule_66 : decode m_P_rule.2.1 66 = .ok (.aload_n 0, 1) := by decide +kernel
theorem d_P_rule_67 : decode m_P_rule.2.1 67 = .ok (.getfield 7, 3) := by decide +kernel
theorem d_P_rule_70 : decode m_P_rule.2.1 70 = .ok (.iload_n 3, 1) := by decide +kernel
theorem d_P_rule_71 : decode m_P_rule.2.1 71 = .ok (.caload, 1) := by decide +kernel
theorem d_P_rule_72 : decode m_P_rule.2.1 72 = .ok (.invokestatic 83, 3) := by decide +kernel
theorem d_P_rule_75 : decode m_P_rule.2.1 75 = .ok (.ifCond .ne 15, 3) := by decide +kernel
theorem d_P_rule_78 : decode m_P_rule.2.1 78 = .ok (.aload_n 0, 1) := by decide +kernel
theorem d_P_rule_79 : decode m_P_rule.2.1 79 = .ok (.getfield 7, 3) := by decide +kernel
theorem d_P_rule_82 : decode m_P_rule.2.1 82 = .ok (.iload_n 3, 1) := by decide +kernel
theorem d_P_rule_83 : decode m_P_rule.2.1 83 = .ok (.caload, 1) := by decide +kernel
theorem d_P_rule_84 : decode m_P_rule.2.1 84 = .ok (.invokestatic 79, 3) := by decide +kernel
theorem d_P_rule_87 : decode m_P_rule.2.1 87 = .ok (.ifCond .eq 7, 3) := by decide +kernel
theorem d_P_rule_90 : decode m_P_rule.2.1 90 = .ok (.iconst 1, 1) := by decide +kernel
theorem d_P_rule_91 : decode m_P_rule.2.1 91 = .ok (.goto 4, 3) := by decide +kernel
theorem d_P_rule_94 : decode m_P_rule.2.1 94 = .ok (.iconst 0, 1) := by decide +kernel
theorem d_P_rule_95 : decode m_P_rule.2.1 95 = .ok (.istore_n 2, 1) := by decide +kernel
theorem d_P_rule_96 : decode m_P_rule.2.1 96 = .ok (.iinc 3 1, 3) := by decide +kernel
theorem d_P_rule_99 : decode m_P_rule.2.1 99 = .ok (.goto (-42), 3) := by decide +kernel
theorem d_P_rule_102 : decode m_P_rule.2.1 102 = .ok (.iload_n 2, 1) := by decide +kernel
theorem d_P_rule_103 : decode m_P_rule.2.1 103 = .ok (.ifCond .ne 9, 3) := by decide +kernel
theorem d_P_rule_106 : decode m_P_rule.2.1 106 = .ok (.aload_n 0, 1) := by decide +kernel
theorem d_P_rule_107 : decode m_P_rule.2.1 107 = .ok (.iconst 1, 1) := by decide +kernel
theorem d_P_rule_108 : decode m_P_rule.2.1 108 = .ok (.invokevirtual 86, 3) := by decide +kernel
theorem d_P_rule_111 : decode m_P_rule.2.1 111 = .ok (.ireturn, 1) := by decide +kernel
theorem d_P_rule_112 : decode m_P_rule.2.1 112 = .ok (.iconst 2, 1) := by decide +kernel
theorem d_P_rule_113 : decode m_P_rule.2.1 113 = .ok (.istore_n 3, 1) := by decide +kernel
theorem d_P_rule_114 : decode m_P_rule.2.1 114 = .ok (.iload_n 3, 1) := by decide +kernel
theorem d_P_rule_115 : decode m_P_rule.2.1 115 = .ok (.iload_n 1, 1) := by decide +kernel
theorem d_P_rule_116 : decode m_P_rule.2.1 116 = .ok (.if_icmp .ge 53, 3) := by decide +kernel
theorem d_P_rule_119 : decode m_P_rule.2.1 119 = .ok (.aload_n 0, 1) := by decide +kernel
theorem d_P_rule_120 : decode m_P_rule.2.1 120 = .ok (.getfield 45, 3) := by decide +kernel
theorem d_P_rule_123 : decode m_P_rule.2.1 123 = .ok (.iload_n 3, 1) := by decide +kernel
theorem d_P_rule_124 : decode m_P_rule.2.1 124 = .ok (.iconst 2, 1) := by decide +kernel
theorem d_P_rule_125 : decode m_P_rule.2.1 125 = .ok (.isub, 1) := by decide +kernel
theorem d_P_rule_126 : decode m_P_rule.2.1 126 = .ok (.aload_n 0, 1) := by decide +kernel
theorem d_P_rule_127 : decode m_P_rule.2.1 127 = .ok (.getfield 7, 3) := by decide +kernel
theorem d_P_rule_130 : decode m_P_rule.2.1 130 = .ok (.iload_n 3, 1) := by decide +kernel
theorem d_P_rule_131 : decode m_P_rule.2.1 131 = .ok (.caload, 1) := by decide +kernel
theorem d_P_rule_132 : decode m_P_rule.2.1 132 = .ok (.invokestatic 83, 3) := by decide +kernel
theorem d_P_rule_135 : decode m_P_rule.2.1 135 = .ok (.ifCond .eq 15, 3) := by decide +kernel
theorem d_P_rule_138 : decode m_P_rule.2.1 138 = .ok (.aload_n 0, 1) := by decide +kernel
theorem d_P_rule_139 : decode m_P_rule.2.1 139 = .ok (.getfield 7, 3) := by decide +kernel
theorem d_P_rule_142 : decode m_P_rule.2.1 142 = .ok (.iload_n 3, 1) := by decide +kernel
theorem d_P_rule_143 : decode m_P_rule.2.1 143 = .ok (.caload, 1) := by decide +kernel
theorem d_P_rule_144 : decode m_P_rule.2.1 144 = .ok (.bipush 97, 2) := by decide +kernel
theorem d_P_rule_146 : decode m_P_rule.2.1 146 = .ok (.isub, 1) := by decide +kernel
theorem d_P_rule_147 : decode m_P_rule.2.1 147 = .ok (.goto 15, 3) := by decide +kernel
theorem d_P_rule_150 : decode m_P_rule.2.1 150 = .ok (.bipush 6, 2) := by decide +kernel
theorem d_P_rule_152 : decode m_P_rule.2.1 152 = .ok (.aload_n 0, 1) := by decide +kernel
theorem d_P_rule_153 : decode m_P_rule.2.1 153 = .ok (.getfield 7, 3) := by decide +kernel
theorem d_P_rule_156 : decode m_P_rule.2.1 156 = .ok (.iload_n 3, 1) := by decide +kernel
theorem d_P_rule_157 : decode m_P_rule.2.1 157 = .ok (.caload, 1) := by decide +kernel
theorem d_P_rule_158 : decode m_P_rule.2.1 158 = .ok (.iadd, 1) := by decide +kernel
theorem d_P_rule_159 : decode m_P_rule.2.1 159 = .ok (.bipush 65, 2) := by decide +kernel
theorem d_P_rule_161 : decode m_P_rule.2.1 161 = .ok (.isub, 1) := by decide +kernel
theorem d_P_rule_162 : decode m_P_rule.2.1 162 = .ok (.iastore, 1) := by decide +kernel
theorem d_P_rule_163 : decode m_P_rule.2.1 163 = .ok (.iinc 3 1, 3) := by decide +kernel
theorem d_P_rule_166 : decode m_P_rule.2.1 166 = .ok (.goto (-52), 3) := by decide +kernel
theorem d_P_rule_169 : decode m_P_rule.2.1 169 = .ok (.iconst 0, 1) := by decide +kernel
theorem d_P_rule_170 : decode m_P_rule.2.1 170 = .ok (.istore_n 3, 1) := by decide +kernel
theorem d_P_rule_171 : decode m_P_rule.2.1 171 = .ok (.iload_n 3, 1) := by decide +kernel
theorem d_P_rule_172 : decode m_P_rule.2.1 172 = .ok (.aload_n 0, 1) := by decide +kernel
theorem d_P_rule_173 : decode m_P_rule.2.1 173 = .ok (.getfield 90, 3) := by decide +kernel
theorem d_P_rule_176 : decode m_P_rule.2.1 176 = .ok (.if_icmp .ge 107, 3) := by decide +kernel
theorem d_P_rule_179 : decode m_P_rule.2.1 179 = .ok (.aload_n 0, 1) := by decide +kernel
theorem d_P_rule_180 : decode m_P_rule.2.1 180 = .ok (.getfield 13, 3) := by decide +kernel
theorem d_P_rule_183 : decode m_P_rule.2.1 183 = .ok (.iload_n 3, 1) := by decide +kernel
theorem d_P_rule_184 : decode m_P_rule.2.1 184 = .ok (.iaload, 1) := by decide +kernel
theorem d_P_rule_185 : decode m_P_rule.2.1 185 = .ok (.aload_n 0, 1) := by decide +kernel
theorem d_P_rule_186 : decode m_P_rule.2.1 186 = .ok (.getfield 7, 3) := by decide +kernel
theorem d_P_rule_189 : decode m_P_rule.2.1 189 = .ok (.iconst 0, 1) := by decide +kernel
theorem d_P_rule_190 : decode m_P_rule.2.1 190 = .ok (.caload, 1) := by decide +kernel
theorem d_P_rule_191 : decode m_P_rule.2.1 191 = .ok (.bipush 65, 2) := by decide +kernel
theorem d_P_rule_193 : decode m_P_rule.2.1 193 = .ok (.isub, 1) := by decide +kernel
theorem d_P_rule_194 : decode m_P_rule.2.1 194 = .ok (.if_icmp .ne 19, 3) := by decide +kernel
theorem d_P_rule_197 : decode m_P_rule.2.1 197 = .ok (.aload_n 0, 1) := by decide +kernel
theorem d_P_rule_198 : decode m_P_rule.2.1 198 = .ok (.getfield 17, 3) := by decide +kernel
theorem d_P_rule_201 : decode m_P_rule.2.1 201 = .ok (.iload_n 3, 1) := by decide +kernel
theorem d_P_rule_202 : decode m_P_rule.2.1 202 = .ok (.iaload, 1) := by decide +kernel
theorem d_P_rule_203 : decode m_P_rule.2.1 203 = .ok (.iload_n 1, 1) := by decide +kernel
theorem d_P_rule_204 : decode m_P_rule.2.1 204 = .ok (.iconst 2, 1) := by decide +kernel
theorem d_P_rule_205 : decode m_P_rule.2.1 205 = .ok (.isub, 1) := by decide +kernel
theorem d_P_rule_206 : decode m_P_rule.2.1 206 = .ok (.if_icmp .ne 7, 3) := by decide +kernel
theorem d_P_rule_209 : decode m_P_rule.2.1 209 = .ok (.iconst 1, 1) := by decide +kernel
theorem d_P_rule_210 : decode m_P_rule.2.1 210 = .ok (.goto 4, 3) := by decide +kernel
theorem d_P_rule_213 : decode m_P_rule.2.1 213 = .ok (.iconst 0, 1) := by decide +kernel
theorem d_P_rule_214 : decode m_P_rule.2.1 214 = .ok (.istore 4, 2) := by decide +kernel
theorem d_P_rule_216 : decode m_P_rule.2.1 216 = .ok (.iconst 0, 1) := by decide +kernel
theorem d_P_rule_217 : decode m_P_rule.2.1 217 = .ok (.istore 5, 2) := by decide +kernel
theorem d_P_rule_219 : decode m_P_rule.2.1 219 = .ok (.iload 5, 2) := by decide +kernel
theorem d_P_rule_221 : decode m_P_rule.2.1 221 = .ok (.iload_n 1, 1) := by decide +kernel
theorem d_P_rule_222 : decode m_P_rule.2.1 222 = .ok (.iconst 2, 1) := by decide +kernel
theorem d_P_rule_223 : decode m_P_rule.2.1 223 = .ok (.isub, 1) := by decide +kernel
theorem d_P_rule_224 : decode m_P_rule.2.1 224 = .ok (.if_icmp .ge 42, 3) := by decide +kernel
theorem d_P_rule_227 : decode m_P_rule.2.1 227 = .ok (.iload 4, 2) := by decide +kernel
theorem d_P_rule_229 : decode m_P_rule.2.1 229 = .ok (.ifCond .eq 37, 3) := by decide +kernel
theorem d_P_rule_232 : decode m_P_rule.2.1 232 = .ok (.aload_n 0, 1) := by decide +kernel
theorem d_P_rule_233 : decode m_P_rule.2.1 233 = .ok (.getfield 20, 3) := by decide +kernel
theorem d_P_rule_236 : decode m_P_rule.2.1 236 = .ok (.iconst 4, 1) := by decide +kernel
theorem d_P_rule_237 : decode m_P_rule.2.1 237 = .ok (.iload_n 3, 1) := by decide +kernel
theorem d_P_rule_238 : decode m_P_rule.2.1 238 = .ok (.imul, 1) := by decide +kernel
theorem d_P_rule_239 : decode m_P_rule.2.1 239 = .ok (.iload 5, 2) := by decide +kernel
theorem d_P_rule_241 : decode m_P_rule.2.1 241 = .ok (.iadd, 1) := by decide +kernel
theorem d_P_rule_242 : decode m_P_rule.2.1 242 = .ok (.iaload, 1) := by decide +kernel
theorem d_P_rule_243 : decode m_P_rule.2.1 243 = .ok (.aload_n 0, 1) := by decide +kernel
theorem d_P_rule_244 : decode m_P_rule.2.1 244 = .ok (.getfield 45, 3) := by decide +kernel
theorem d_P_rule_247 : decode m_P_rule.2.1 247 = .ok (.iload 5, 2) := by decide +kernel
theorem d_P_rule_249 : decode m_P_rule.2.1 249 = .ok (.iaload, 1) := by decide +kernel
theorem d_P_rule_250 : decode m_P_rule.2.1 250 = .ok (.if_icmp .ne 7, 3) := by decide +kernel
theorem d_P_rule_253 : decode m_P_rule.2.1 253 = .ok (.iconst 1, 1) := by decide +kernel
theorem d_P_rule_254 : decode m_P_rule.2.1 254 = .ok (.goto 4, 3) := by decide +kernel
theorem d_P_rule_257 : decode m_P_rule.2.1 257 = .ok (.iconst 0, 1) := by decide +kernel
theorem d_P_rule_258 : decode m_P_rule.2.1 258 = .ok (.istore 4, 2) := by decide +kernel
theorem d_P_rule_260 : decode m_P_rule.2.1 260 = .ok (.iinc 5 1, 3) := by decide +kernel
theorem d_P_rule_263 : decode m_P_rule.2.1 263 = .ok (.goto (-44), 3) := by decide +kernel
theorem d_P_rule_266 : decode m_P_rule.2.1 266 = .ok (.iload 4, 2) := by decide +kernel
theorem d_P_rule_268 : decode m_P_rule.2.1 268 = .ok (.ifCond .eq 9, 3) := by decide +kernel
theorem d_P_rule_271 : decode m_P_rule.2.1 271 = .ok (.aload_n 0, 1) := by decide +kernel
theorem d_P_rule_272 : decode m_P_rule.2.1 272 = .ok (.iconst 1, 1) := by decide +kernel
theorem d_P_rule_273 : decode m_P_rule.2.1 273 = .ok (.invokevirtual 86, 3) := by decide +kernel
theorem d_P_rule_276 : decode m_P_rule.2.1 276 = .ok (.ireturn, 1) := by decide +kernel
theorem d_P_rule_277 : decode m_P_rule.2.1 277 = .ok (.iinc 3 1, 3) := by decide +kernel
theorem d_P_rule_280 : decode m_P_rule.2.1 280 = .ok (.goto (-109), 3) := by decide +kernel
theorem d_P_rule_283 : decode m_P_rule.2.1 283 = .ok (.aload_n 0, 1) := by decide +kernel
theorem d_P_rule_284 : decode m_P_rule.2.1 284 = .ok (.getfield 90, 3) := by decide +kernel
theorem d_P_rule_287 : decode m_P_rule.2.1 287 = .ok (.bipush 10, 2) := by decide +kernel
theorem d_P_rule_289 : decode m_P_rule.2.1 289 = .ok (.if_icmp .ne 9, 3) := by decide +kernel
theorem d_P_rule_292 : decode m_P_rule.2.1 292 = .ok (.aload_n 0, 1) := by decide +kernel
theorem d_P_rule_293 : decode m_P_rule.2.1 293 = .ok (.iconst 2, 1) := by decide +kernel
theorem d_P_rule_294 : decode m_P_rule.2.1 294 = .ok (.invokevirtual 86, 3) := by decide +kernel
theorem d_P_rule_297 : decode m_P_rule.2.1 297 = .ok (.ireturn, 1) := by decide +kernel
theorem d_P_rule_298 : decode m_P_rule.2.1 298 = .ok (.aload_n 0, 1) := by decide +kernel
theorem d_P_rule_299 : decode m_P_rule.2.1 299 = .ok (.getfield 13, 3) := by decide +kernel
theorem d_P_rule_302 : decode m_P_rule.2.1 302 = .ok (.aload_n 0, 1) := by decide +kernel
theorem d_P_rule_303 : decode m_P_rule.2.1 303 = .ok (.getfield 90, 3) := by decide +kernel
theorem d_P_rule_306 : decode m_P_rule.2.1 306 = .ok (.aload_n 0, 1) := by decide +kernel
theorem d_P_rule_307 : decode m_P_rule.2.1 307 = .ok (.getfield 7, 3) := by decide +kernel
theorem d_P_rule_310 : decode m_P_rule.2.1 310 = .ok (.iconst 0, 1) := by decide +kernel
theorem d_P_rule_311 : decode m_P_rule.2.1 311 = .ok (.caload, 1) := by decide +kernel
theorem d_P_rule_312 : decode m_P_rule.2.1 312 = .ok (.bipush 65, 2) := by decide +kernel
theorem d_P_rule_314 : decode m_P_rule.2.1 314 = .ok (.isub, 1) := by decide +kernel
theorem d_P_rule_315 : decode m_P_rule.2.1 315 = .ok (.iastore, 1) := by decide +kernel
theorem d_P_rule_316 : decode m_P_rule.2.1 316 = .ok (.aload_n 0, 1) := by decide +kernel
theorem d_P_rule_317 : decode m_P_rule.2.1 317 = .ok (.getfield 17, 3) := by decide +kernel
theorem d_P_rule_320 : decode m_P_rule.2.1 320 = .ok (.aload_n 0, 1) := by decide +kernel
theorem d_P_rule_321 : decode m_P_rule.2.1 321 = .ok (.getfield 90, 3) := by decide +kernel
theorem d_P_rule_324 : decode m_P_rule.2.1 324 = .ok (.iload_n 1, 1) := by decide +kernel
theorem d_P_rule_325 : decode m_P_rule.2.1 325 = .ok (.iconst 2, 1) := by decide +kernel
theorem d_P_rule_326 : decode m_P_rule.2.1 326 = .ok (.isub, 1) := by decide +kernel
theorem d_P_rule_327 : decode m_P_rule.2.1 327 = .ok (.iastore, 1) := by decide +kernel
theorem d_P_rule_328 : decode m_P_rule.2.1 328 = .ok (.iconst 0, 1) := by decide +kernel
theorem d_P_rule_329 : decode m_P_rule.2.1 329 = .ok (.istore_n 3, 1) := by decide +kernel
theorem d_P_rule_330 : decode m_P_rule.2.1 330 = .ok (.iload_n 3, 1) := by decide +kernel
theorem d_P_rule_331 : decode m_P_rule.2.1 331 = .ok (.iload_n 1, 1) := by decide +kernel
theorem d_P_rule_332 : decode m_P_rule.2.1 332 = .ok (.iconst 2, 1) := by decide +kernel
theorem d_P_rule_333 : decode m_P_rule.2.1 333 = .ok (.isub, 1) := by decide +kernel
theorem d_P_rule_334 : decode m_P_rule.2.1 334 = .ok (.if_icmp .ge 28, 3) := by decide +kernel
theorem d_P_rule_337 : decode m_P_rule.2.1 337 = .ok (.aload_n 0, 1) := by decide +kernel
theorem d_P_rule_338 : decode m_P_rule.2.1 338 = .ok (.getfield 20, 3) := by decide +kernel
theorem d_P_rule_341 : decode m_P_rule.2.1 341 = .ok (.iconst 4, 1) := by decide +kernel
theorem d_P_rule_342 : decode m_P_rule.2.1 342 = .ok (.aload_n 0, 1) := by decide +kernel
theorem d_P_rule_343 : decode m_P_rule.2.1 343 = .ok (.getfield 90, 3) := by decide +kernel
theorem d_P_rule_346 : decode m_P_rule.2.1 346 = .ok (.imul, 1) := by decide +kernel
theorem d_P_rule_347 : decode m_P_rule.2.1 347 = .ok (.iload_n 3, 1) := by decide +kernel
theorem d_P_rule_348 : decode m_P_rule.2.1 348 = .ok (.iadd, 1) := by decide +kernel
theorem d_P_rule_349 : decode m_P_rule.2.1 349 = .ok (.aload_n 0, 1) := by decide +kernel
theorem d_P_rule_350 : decode m_P_rule.2.1 350 = .ok (.getfield 45, 3) := by decide +kernel
theorem d_P_rule_353 : decode m_P_rule.2.1 353 = .ok (.iload_n 3, 1) := by decide +kernel
theorem d_P_rule_354 : decode m_P_rule.2.1 354 = .ok (.iaload, 1) := by decide +kernel
theorem d_P_rule_355 : decode m_P_rule.2.1 355 = .ok (.iastore, 1) := by decide +kernel
theorem d_P_rule_356 : decode m_P_rule.2.1 356 = .ok (.iinc 3 1, 3) := by decide +kernel
theorem d_P_rule_359 : decode m_P_rule.2.1 359 = .ok (.goto (-29), 3) := by decide +kernel
theorem d_P_rule_362 : decode m_P_rule.2.1 362 = .ok (.aload_n 0, 1) := by decide +kernel
theorem d_P_rule_363 : decode m_P_rule.2.1 363 = .ok (.dup, 1) := by decide +kernel
theorem d_P_rule_364 : decode m_P_rule.2.1 364 = .ok (.getfield 90, 3) := by decide +kernel
theorem d_P_rule_367 : decode m_P_rule.2.1 367 = .ok (.iconst 1, 1) := by decide +kernel
theorem d_P_rule_368 : decode m_P_rule.2.1 368 = .ok (.iadd, 1) := by decide +kernel
theorem d_P_rule_369 : decode m_P_rule.2.1 369 = .ok (.putfield 90, 3) := by decide +kernel
theorem d_P_rule_372 : decode m_P_rule.2.1 372 = .ok (.aload_n 0, 1) := by decide +kernel
theorem d_P_rule_373 : decode m_P_rule.2.1 373 = .ok (.iconst 0, 1) := by decide +kernel
theorem d_P_rule_374 : decode m_P_rule.2.1 374 = .ok (.putfield 93, 3) := by decide +kernel
theorem d_P_rule_377 : decode m_P_rule.2.1 377 = .ok (.aload_n 0, 1) := by decide +kernel
theorem d_P_rule_378 : decode m_P_rule.2.1 378 = .ok (.invokevirtual 96, 3) := by decide +kernel
theorem d_P_rule_381 : decode m_P_rule.2.1 381 = .ok (.aload_n 0, 1) := by decide +kernel
theorem d_P_rule_382 : decode m_P_rule.2.1 382 = .ok (.getfield 90, 3) := by decide +kernel
theorem d_P_rule_385 : decode m_P_rule.2.1 385 = .ok (.iconst 1, 1) := by decide +kernel
theorem d_P_rule_386 : decode m_P_rule.2.1 386 = .ok (.isub, 1) := by decide +kernel
theorem d_P_rule_387 : decode m_P_rule.2.1 387 = .ok (.ireturn, 1) := by decide +kernel
theorem d_P_isName_0 : decode m_P_isName.2.1 0 = .ok (.iload_n 0, 1) := by decide +kernel
theorem d_P_isName_1 : decode m_P_isName.2.1 1 = .ok (.bipush 65, 2) := by decide +kernel
theorem d_P_isName_3 : decode m_P_isName.2.1 3 = .ok (.if_icmp .lt 13, 3) := by decide +kernel
theorem d_P_isName_6 : decode m_P_isName.2.1 6 = .ok (.iload_n 0, 1) := by decide +kernel
theorem d_P_isName_7 : decode m_P_isName.2.1 7 = .ok (.bipush 70, 2) := by decide +kernel
theorem d_P_isName_9 : decode m_P_isName.2.1 9 = .ok (.if_icmp .gt 7, 3) := by decide +kernel
theorem d_P_isName_12 : decode m_P_isName.2.1 12 = .ok (.iconst 1, 1) := by decide +kernel
theorem d_P_isName_13 : decode m_P_isName.2.1 13 = .ok (.goto 4, 3) := by decide +kernel
theorem d_P_isName_16 : decode m_P_isName.2.1 16 = .ok (.iconst 0, 1) := by decide +kernel
theorem d_P_isName_17 : decode m_P_isName.2.1 17 = .ok (.ireturn, 1) := by decide +kernel
theorem d_P_isLetter_0 : decode m_P_isLetter.2.1 0 = .ok (.iload_n 0, 1) := by decide +kernel
theorem d_P_isLetter_1 : decode m_P_isLetter.2.1 1 = .ok (.bipush 97, 2) := by decide +kernel
theorem d_P_isLetter_3 : decode m_P_isLetter.2.1 3 = .ok (.if_icmp .lt 13, 3) := by decide +kernel
theorem d_P_isLetter_6 : decode m_P_isLetter.2.1 6 = .ok (.iload_n 0, 1) := by decide +kernel
theorem d_P_isLetter_7 : decode m_P_isLetter.2.1 7 = .ok (.bipush 102, 2) := by decide +kernel
theorem d_P_isLetter_9 : decode m_P_isLetter.2.1 9 = .ok (.if_icmp .gt 7, 3) := by decide +kernel
theorem d_P_isLetter_12 : decode m_P_isLetter.2.1 12 = .ok (.iconst 1, 1) := by decide +kernel
theorem d_P_isLetter_13 : decode m_P_isLetter.2.1 13 = .ok (.goto 4, 3) := by decide +kernel
theorem d_P_isLetter_16 : decode m_P_isLetter.2.1 16 = .ok (.iconst 0, 1) := by decide +kernel
theorem d_P_isLetter_17 : decode m_P_isLetter.2.1 17 = .ok (.ireturn, 1) := by decide +kernel
theorem d_P_fails_0 : decode m_P_fails.2.1 0 = .ok (.aload_n 0, 1) := by decide +kernel
theorem d_P_fails_1 : decode m_P_fails.2.1 1 = .ok (.iload_n 1, 1) := by decide +kernel
theorem d_P_fails_2 : decode m_P_fails.2.1 2 = .ok (.putfield 66, 3) := by decide +kernel
theorem d_P_fails_5 : decode m_P_fails.2.1 5 = .ok (.iconst 0, 1) := by decide +kernel
theorem d_P_fails_6 : decode m_P_fails.2.1 6 = .ok (.ireturn, 1) := by decide +kernel
theorem d_P_forget_0 : decode m_P_forget.2.1 0 = .ok (.aload_n 0, 1) := by decide +kernel
theorem d_P_forget_1 : decode m_P_forget.2.1 1 = .ok (.iconst 0, 1) := by decide +kernel
theorem d_P_forget_2 : decode m_P_forget.2.1 2 = .ok (.putfield 73, 3) := by decide +kernel
theorem d_P_forget_5 : decode m_P_forget.2.1 5 = .ok (.aload_n 0, 1) := by decide +kernel
theorem d_P_forget_6 : decode m_P_forget.2.1 6 = .ok (.iconst 0, 1) := by decide +kernel
theorem d_P_forget_7 : decode m_P_forget.2.1 7 = .ok (.putfield 76, 3) := by decide +kernel
theorem d_P_forget_10 : decode m_P_forget.2.1 10 = .ok (.return_, 1) := by decide +kernel
theorem d_P_compile_0 : decode m_P_compile.2.1 0 = .ok (.aload_n 0, 1) := by decide +kernel
theorem d_P_compile_1 : decode m_P_compile.2.1 1 = .ok (.iconst 0, 1) := by decide +kernel
theorem d_P_compile_2 : decode m_P_compile.2.1 2 = .ok (.putfield 66, 3) := by decide +kernel
theorem d_P_compile_5 : decode m_P_compile.2.1 5 = .ok (.aload_n 0, 1) := by decide +kernel
theorem d_P_compile_6 : decode m_P_compile.2.1 6 = .ok (.iconst 0, 1) := by decide +kernel
theorem d_P_compile_7 : decode m_P_compile.2.1 7 = .ok (.putfield 93, 3) := by decide +kernel
theorem d_P_compile_10 : decode m_P_compile.2.1 10 = .ok (.aload_n 0, 1) := by decide +kernel
theorem d_P_compile_11 : decode m_P_compile.2.1 11 = .ok (.invokevirtual 96, 3) := by decide +kernel
theorem d_P_compile_14 : decode m_P_compile.2.1 14 = .ok (.aload_n 0, 1) := by decide +kernel
theorem d_P_compile_15 : decode m_P_compile.2.1 15 = .ok (.getfield 90, 3) := by decide +kernel
theorem d_P_compile_18 : decode m_P_compile.2.1 18 = .ok (.ifCond .ne 9, 3) := by decide +kernel
theorem d_P_compile_21 : decode m_P_compile.2.1 21 = .ok (.aload_n 0, 1) := by decide +kernel
theorem d_P_compile_22 : decode m_P_compile.2.1 22 = .ok (.iconst 1, 1) := by decide +kernel
theorem d_P_compile_23 : decode m_P_compile.2.1 23 = .ok (.invokevirtual 86, 3) := by decide +kernel
theorem d_P_compile_26 : decode m_P_compile.2.1 26 = .ok (.ireturn, 1) := by decide +kernel
theorem d_P_compile_27 : decode m_P_compile.2.1 27 = .ok (.aload_n 0, 1) := by decide +kernel
theorem d_P_compile_28 : decode m_P_compile.2.1 28 = .ok (.invokevirtual 122, 3) := by decide +kernel
theorem d_P_compile_31 : decode m_P_compile.2.1 31 = .ok (.aload_n 0, 1) := by decide +kernel
theorem d_P_compile_32 : decode m_P_compile.2.1 32 = .ok (.getfield 27, 3) := by decide +kernel
theorem d_P_compile_35 : decode m_P_compile.2.1 35 = .ok (.aload_n 0, 1) := by decide +kernel
theorem d_P_compile_36 : decode m_P_compile.2.1 36 = .ok (.getfield 13, 3) := by decide +kernel
theorem d_P_compile_39 : decode m_P_compile.2.1 39 = .ok (.iconst 0, 1) := by decide +kernel
theorem d_P_compile_40 : decode m_P_compile.2.1 40 = .ok (.iaload, 1) := by decide +kernel
theorem d_P_compile_41 : decode m_P_compile.2.1 41 = .ok (.baload, 1) := by decide +kernel
theorem d_P_compile_42 : decode m_P_compile.2.1 42 = .ok (.ifCond .ne 9, 3) := by decide +kernel
theorem d_P_compile_45 : decode m_P_compile.2.1 45 = .ok (.aload_n 0, 1) := by decide +kernel
theorem d_P_compile_46 : decode m_P_compile.2.1 46 = .ok (.iconst 2, 1) := by decide +kernel
theorem d_P_compile_47 : decode m_P_compile.2.1 47 = .ok (.invokevirtual 86, 3) := by decide +kernel
theorem d_P_compile_50 : decode m_P_compile.2.1 50 = .ok (.ireturn, 1) := by decide +kernel
theorem d_P_compile_51 : decode m_P_compile.2.1 51 = .ok (.aload_n 0, 1) := by decide +kernel
theorem d_P_compile_52 : decode m_P_compile.2.1 52 = .ok (.getfield 13, 3) := by decide +kernel
theorem d_P_compile_55 : decode m_P_compile.2.1 55 = .ok (.bipush 10, 2) := by decide +kernel
theorem d_P_compile_57 : decode m_P_compile.2.1 57 = .ok (.bipush 6, 2) := by decide +kernel
theorem d_P_compile_59 : decode m_P_compile.2.1 59 = .ok (.iastore, 1) := by decide +kernel
theorem d_P_compile_60 : decode m_P_compile.2.1 60 = .ok (.aload_n 0, 1) := by decide +kernel
theorem d_P_compile_61 : decode m_P_compile.2.1 61 = .ok (.getfield 17, 3) := by decide +kernel
theorem d_P_compile_64 : decode m_P_compile.2.1 64 = .ok (.bipush 10, 2) := by decide +kernel
theorem d_P_compile_66 : decode m_P_compile.2.1 66 = .ok (.iconst 1, 1) := by decide +kernel
theorem d_P_compile_67 : decode m_P_compile.2.1 67 = .ok (.iastore, 1) := by decide +kernel
theorem d_P_compile_68 : decode m_P_compile.2.1 68 = .ok (.aload_n 0, 1) := by decide +kernel
theorem d_P_compile_69 : decode m_P_compile.2.1 69 = .ok (.getfield 20, 3) := by decide +kernel
theorem d_P_compile_72 : decode m_P_compile.2.1 72 = .ok (.bipush 40, 2) := by decide +kernel
theorem d_P_compile_74 : decode m_P_compile.2.1 74 = .ok (.bipush 6, 2) := by decide +kernel
theorem d_P_compile_76 : decode m_P_compile.2.1 76 = .ok (.aload_n 0, 1) := by decide +kernel
theorem d_P_compile_77 : decode m_P_compile.2.1 77 = .ok (.getfield 13, 3) := by decide +kernel
theorem d_P_compile_80 : decode m_P_compile.2.1 80 = .ok (.iconst 0, 1) := by decide +kernel
theorem d_P_compile_81 : decode m_P_compile.2.1 81 = .ok (.iaload, 1) := by decide +kernel
theorem d_P_compile_82 : decode m_P_compile.2.1 82 = .ok (.iadd, 1) := by decide +kernel
theorem d_P_compile_83 : decode m_P_compile.2.1 83 = .ok (.iastore, 1) := by decide +kernel
theorem d_P_compile_84 : decode m_P_compile.2.1 84 = .ok (.aload_n 0, 1) := by decide +kernel
theorem d_P_compile_85 : decode m_P_compile.2.1 85 = .ok (.getfield 23, 3) := by decide +kernel
theorem d_P_compile_88 : decode m_P_compile.2.1 88 = .ok (.bipush 10, 2) := by decide +kernel
theorem d_P_compile_90 : decode m_P_compile.2.1 90 = .ok (.iconst 1, 1) := by decide +kernel
theorem d_P_compile_91 : decode m_P_compile.2.1 91 = .ok (.bastore, 1) := by decide +kernel
theorem d_P_compile_92 : decode m_P_compile.2.1 92 = .ok (.aload_n 0, 1) := by decide +kernel
theorem d_P_compile_93 : decode m_P_compile.2.1 93 = .ok (.getfield 90, 3) := by decide +kernel
theorem d_P_compile_96 : decode m_P_compile.2.1 96 = .ok (.istore_n 1, 1) := by decide +kernel
theorem d_P_compile_97 : decode m_P_compile.2.1 97 = .ok (.iload_n 1, 1) := by decide +kernel
theorem d_P_compile_98 : decode m_P_compile.2.1 98 = .ok (.bipush 10, 2) := by decide +kernel
theorem d_P_compile_100 : decode m_P_compile.2.1 100 = .ok (.if_icmp .ge 16, 3) := by decide +kernel
theorem d_P_compile_103 : decode m_P_compile.2.1 103 = .ok (.aload_n 0, 1) := by decide +kernel
theorem d_P_compile_104 : decode m_P_compile.2.1 104 = .ok (.getfield 17, 3) := by decide +kernel
theorem d_P_compile_107 : decode m_P_compile.2.1 107 = .ok (.iload_n 1, 1) := by decide +kernel
theorem d_P_compile_108 : decode m_P_compile.2.1 108 = .ok (.iconst 0, 1) := by decide +kernel
theorem d_P_compile_109 : decode m_P_compile.2.1 109 = .ok (.iastore, 1) := by decide +kernel
theorem d_P_compile_110 : decode m_P_compile.2.1 110 = .ok (.iinc 1 1, 3) := by decide +kernel
theorem d_P_compile_113 : decode m_P_compile.2.1 113 = .ok (.goto (-16), 3) := by decide +kernel
theorem d_P_compile_116 : decode m_P_compile.2.1 116 = .ok (.iconst 0, 1) := by decide +kernel
theorem d_P_compile_117 : decode m_P_compile.2.1 117 = .ok (.istore_n 1, 1) := by decide +kernel
theorem d_P_compile_118 : decode m_P_compile.2.1 118 = .ok (.iload_n 1, 1) := by decide +kernel
theorem d_P_compile_119 : decode m_P_compile.2.1 119 = .ok (.bipush 55, 2) := by decide +kernel
theorem d_P_compile_121 : decode m_P_compile.2.1 121 = .ok (.if_icmp .ge 16, 3) := by decide +kernel
theorem d_P_compile_124 : decode m_P_compile.2.1 124 = .ok (.aload_n 0, 1) := by decide +kernel
theorem d_P_compile_125 : decode m_P_compile.2.1 125 = .ok (.getfield 36, 3) := by decide +kernel
theorem d_P_compile_128 : decode m_P_compile.2.1 128 = .ok (.iload_n 1, 1) := by decide +kernel
theorem d_P_compile_129 : decode m_P_compile.2.1 129 = .ok (.iconst 0, 1) := by decide +kernel
theorem d_P_compile_130 : decode m_P_compile.2.1 130 = .ok (.iastore, 1) := by decide +kernel
theorem d_P_compile_131 : decode m_P_compile.2.1 131 = .ok (.iinc 1 1, 3) := by decide +kernel
theorem d_P_compile_134 : decode m_P_compile.2.1 134 = .ok (.goto (-16), 3) := by decide +kernel
theorem d_P_compile_137 : decode m_P_compile.2.1 137 = .ok (.aload_n 0, 1) := by decide +kernel
theorem d_P_compile_138 : decode m_P_compile.2.1 138 = .ok (.getfield 36, 3) := by decide +kernel
theorem d_P_compile_141 : decode m_P_compile.2.1 141 = .ok (.bipush 50, 2) := by decide +kernel
theorem d_P_compile_143 : decode m_P_compile.2.1 143 = .ok (.bipush 64, 2) := by decide +kernel
theorem d_P_compile_145 : decode m_P_compile.2.1 145 = .ok (.iastore, 1) := by decide +kernel
theorem d_P_compile_146 : decode m_P_compile.2.1 146 = .ok (.aload_n 0, 1) := by decide +kernel
theorem d_P_compile_147 : decode m_P_compile.2.1 147 = .ok (.iconst 0, 1) := by decide +kernel
theorem d_P_compile_148 : decode m_P_compile.2.1 148 = .ok (.invokevirtual 118, 3) := by decide +kernel
theorem d_P_compile_151 : decode m_P_compile.2.1 151 = .ok (.aload_n 0, 1) := by decide +kernel
theorem d_P_compile_152 : decode m_P_compile.2.1 152 = .ok (.iconst 1, 1) := by decide +kernel
theorem d_P_compile_153 : decode m_P_compile.2.1 153 = .ok (.putfield 115, 3) := by decide +kernel
theorem d_P_compile_156 : decode m_P_compile.2.1 156 = .ok (.iconst 0, 1) := by decide +kernel
theorem d_P_compile_157 : decode m_P_compile.2.1 157 = .ok (.istore_n 1, 1) := by decide +kernel
theorem d_P_compile_158 : decode m_P_compile.2.1 158 = .ok (.iload_n 1, 1) := by decide +kernel
theorem d_P_compile_159 : decode m_P_compile.2.1 159 = .ok (.aload_n 0, 1) := by decide +kernel
theorem d_P_compile_160 : decode m_P_compile.2.1 160 = .ok (.getfield 115, 3) := by decide +kernel
theorem d_P_compile_163 : decode m_P_compile.2.1 163 = .ok (.if_icmp .ge 60, 3) := by decide +kernel
theorem d_P_compile_166 : decode m_P_compile.2.1 166 = .ok (.aload_n 0, 1) := by decide +kernel
theorem d_P_compile_167 : decode m_P_compile.2.1 167 = .ok (.getfield 115, 3) := by decide +kernel
theorem d_P_compile_170 : decode m_P_compile.2.1 170 = .ok (.bipush 40, 2) := by decide +kernel
theorem d_P_compile_172 : decode m_P_compile.2.1 172 = .ok (.if_icmp .gt 51, 3) := by decide +kernel
theorem d_P_compile_175 : decode m_P_compile.2.1 175 = .ok (.iconst 0, 1) := by decide +kernel
theorem d_P_compile_176 : decode m_P_compile.2.1 176 = .ok (.istore_n 2, 1) := by decide +kernel
theorem d_P_compile_177 : decode m_P_compile.2.1 177 = .ok (.iload_n 2, 1) := by decide +kernel
theorem d_P_compile_178 : decode m_P_compile.2.1 178 = .ok (.bipush 12, 2) := by decide +kernel
theorem d_P_compile_180 : decode m_P_compile.2.1 180 = .ok (.if_icmp .ge 37, 3) := by decide +kernel
theorem d_P_compile_183 : decode m_P_compile.2.1 183 = .ok (.aload_n 0, 1) := by decide +kernel
theorem d_P_compile_184 : decode m_P_compile.2.1 184 = .ok (.getfield 115, 3) := by decide +kernel
theorem d_P_compile_187 : decode m_P_compile.2.1 187 = .ok (.bipush 40, 2) := by decide +kernel
theorem d_P_compile_189 : decode m_P_compile.2.1 189 = .ok (.if_icmp .gt 28, 3) := by decide +kernel
theorem d_P_compile_192 : decode m_P_compile.2.1 192 = .ok (.aload_n 0, 1) := by decide +kernel
theorem d_P_compile_193 : decode m_P_compile.2.1 193 = .ok (.iload_n 1, 1) := by decide +kernel
theorem d_P_compile_194 : decode m_P_compile.2.1 194 = .ok (.iload_n 2, 1) := by decide +kernel
theorem d_P_compile_195 : decode m_P_compile.2.1 195 = .ok (.invokevirtual 125, 3) := by decide +kernel
theorem d_P_compile_198 : decode m_P_compile.2.1 198 = .ok (.istore_n 3, 1) := by decide +kernel
theorem d_P_compile_199 : decode m_P_compile.2.1 199 = .ok (.aload_n 0, 1) := by decide +kernel
theorem d_P_compile_200 : decode m_P_compile.2.1 200 = .ok (.getfield 39, 3) := by decide +kernel
theorem d_P_compile_203 : decode m_P_compile.2.1 203 = .ok (.bipush 12, 2) := by decide +kernel
theorem d_P_compile_205 : decode m_P_compile.2.1 205 = .ok (.iload_n 1, 1) := by decide +kernel
theorem d_P_compile_206 : decode m_P_compile.2.1 206 = .ok (.imul, 1) := by decide +kernel
theorem d_P_compile_207 : decode m_P_compile.2.1 207 = .ok (.iload_n 2, 1) := by decide +kernel
theorem d_P_compile_208 : decode m_P_compile.2.1 208 = .ok (.iadd, 1) := by decide +kernel
theorem d_P_compile_209 : decode m_P_compile.2.1 209 = .ok (.iload_n 3, 1) := by decide +kernel
theorem d_P_compile_210 : decode m_P_compile.2.1 210 = .ok (.iastore, 1) := by decide +kernel
theorem d_P_compile_211 : decode m_P_compile.2.1 211 = .ok (.iinc 2 1, 3) := by decide +kernel
theorem d_P_compile_214 : decode m_P_compile.2.1 214 = .ok (.goto (-37), 3) := by decide +kernel
theorem d_P_compile_217 : decode m_P_compile.2.1 217 = .ok (.iinc 1 1, 3) := by decide +kernel
theorem d_P_compile_220 : decode m_P_compile.2.1 220 = .ok (.goto (-62), 3) := by decide +kernel
theorem d_P_compile_223 : decode m_P_compile.2.1 223 = .ok (.aload_n 0, 1) := by decide +kernel
theorem d_P_compile_224 : decode m_P_compile.2.1 224 = .ok (.getfield 115, 3) := by decide +kernel
theorem d_P_compile_227 : decode m_P_compile.2.1 227 = .ok (.bipush 40, 2) := by decide +kernel
theorem d_P_compile_229 : decode m_P_compile.2.1 229 = .ok (.if_icmp .le 7, 3) := by decide +kernel
theorem d_P_compile_232 : decode m_P_compile.2.1 232 = .ok (.iconst 1, 1) := by decide +kernel
theorem d_P_compile_233 : decode m_P_compile.2.1 233 = .ok (.goto 4, 3) := by decide +kernel
theorem d_P_compile_236 : decode m_P_compile.2.1 236 = .ok (.iconst 0, 1) := by decide +kernel
theorem d_P_compile_237 : decode m_P_compile.2.1 237 = .ok (.istore_n 1, 1) := by decide +kernel
theorem d_P_compile_238 : decode m_P_compile.2.1 238 = .ok (.iconst 0, 1) := by decide +kernel
theorem d_P_compile_239 : decode m_P_compile.2.1 239 = .ok (.istore_n 2, 1) := by decide +kernel
theorem d_P_compile_240 : decode m_P_compile.2.1 240 = .ok (.iload_n 2, 1) := by decide +kernel
theorem d_P_compile_241 : decode m_P_compile.2.1 241 = .ok (.aload_n 0, 1) := by decide +kernel
theorem d_P_compile_242 : decode m_P_compile.2.1 242 = .ok (.getfield 115, 3) := by decide +kernel
theorem d_P_compile_245 : decode m_P_compile.2.1 245 = .ok (.if_icmp .ge 19, 3) := by decide +kernel
theorem d_P_compile_248 : decode m_P_compile.2.1 248 = .ok (.iload_n 1, 1) := by decide +kernel
theorem d_P_compile_249 : decode m_P_compile.2.1 249 = .ok (.ifCond .ne 15, 3) := by decide +kernel
theorem d_P_compile_252 : decode m_P_compile.2.1 252 = .ok (.aload_n 0, 1) := by decide +kernel
theorem d_P_compile_253 : decode m_P_compile.2.1 253 = .ok (.iload_n 2, 1) := by decide +kernel
theorem d_P_compile_254 : decode m_P_compile.2.1 254 = .ok (.invokevirtual 128, 3) := by decide +kernel
theorem d_P_compile_257 : decode m_P_compile.2.1 257 = .ok (.istore_n 1, 1) := by decide +kernel
theorem d_P_compile_258 : decode m_P_compile.2.1 258 = .ok (.iinc 2 1, 3) := by decide +kernel
theorem d_P_compile_261 : decode m_P_compile.2.1 261 = .ok (.goto (-21), 3) := by decide +kernel
theorem d_P_compile_264 : decode m_P_compile.2.1 264 = .ok (.iload_n 1, 1) := by decide +kernel
theorem d_P_compile_265 : decode m_P_compile.2.1 265 = .ok (.ifCond .eq 9, 3) := by decide +kernel
theorem d_P_compile_268 : decode m_P_compile.2.1 268 = .ok (.aload_n 0, 1) := by decide +kernel
theorem d_P_compile_269 : decode m_P_compile.2.1 269 = .ok (.iconst 2, 1) := by decide +kernel
theorem d_P_compile_270 : decode m_P_compile.2.1 270 = .ok (.invokevirtual 86, 3) := by decide +kernel
theorem d_P_compile_273 : decode m_P_compile.2.1 273 = .ok (.ireturn, 1) := by decide +kernel
theorem d_P_compile_274 : decode m_P_compile.2.1 274 = .ok (.aload_n 0, 1) := by decide +kernel
theorem d_P_compile_275 : decode m_P_compile.2.1 275 = .ok (.aload_n 0, 1) := by decide +kernel
theorem d_P_compile_276 : decode m_P_compile.2.1 276 = .ok (.getfield 115, 3) := by decide +kernel
theorem d_P_compile_279 : decode m_P_compile.2.1 279 = .ok (.putfield 93, 3) := by decide +kernel
theorem d_P_compile_282 : decode m_P_compile.2.1 282 = .ok (.aload_n 0, 1) := by decide +kernel
theorem d_P_compile_283 : decode m_P_compile.2.1 283 = .ok (.getfield 93, 3) := by decide +kernel
theorem d_P_compile_286 : decode m_P_compile.2.1 286 = .ok (.ireturn, 1) := by decide +kernel
