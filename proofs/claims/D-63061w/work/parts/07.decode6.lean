/-! decode rows (printed by gen/names.py) -/
theorem d_P_isConflict_0 : decode m_P_isConflict.2.1 0 = .ok (.iconst 0, 1) := by decide +kernel
theorem d_P_isConflict_1 : decode m_P_isConflict.2.1 1 = .ok (.istore_n 2, 1) := by decide +kernel
theorem d_P_isConflict_2 : decode m_P_isConflict.2.1 2 = .ok (.iload_n 2, 1) := by decide +kernel
theorem d_P_isConflict_3 : decode m_P_isConflict.2.1 3 = .ok (.bipush 11, 2) := by decide +kernel
theorem d_P_isConflict_5 : decode m_P_isConflict.2.1 5 = .ok (.if_icmp .ge 173, 3) := by decide +kernel
theorem d_P_isConflict_8 : decode m_P_isConflict.2.1 8 = .ok (.aload_n 0, 1) := by decide +kernel
theorem d_P_isConflict_9 : decode m_P_isConflict.2.1 9 = .ok (.getfield 36, 3) := by decide +kernel
theorem d_P_isConflict_12 : decode m_P_isConflict.2.1 12 = .ok (.bipush 55, 2) := by decide +kernel
theorem d_P_isConflict_14 : decode m_P_isConflict.2.1 14 = .ok (.iload_n 1, 1) := by decide +kernel
theorem d_P_isConflict_15 : decode m_P_isConflict.2.1 15 = .ok (.imul, 1) := by decide +kernel
theorem d_P_isConflict_16 : decode m_P_isConflict.2.1 16 = .ok (.iconst 5, 1) := by decide +kernel
theorem d_P_isConflict_17 : decode m_P_isConflict.2.1 17 = .ok (.iload_n 2, 1) := by decide +kernel
theorem d_P_isConflict_18 : decode m_P_isConflict.2.1 18 = .ok (.imul, 1) := by decide +kernel
theorem d_P_isConflict_19 : decode m_P_isConflict.2.1 19 = .ok (.iadd, 1) := by decide +kernel
theorem d_P_isConflict_20 : decode m_P_isConflict.2.1 20 = .ok (.aload_n 0, 1) := by decide +kernel
theorem d_P_isConflict_21 : decode m_P_isConflict.2.1 21 = .ok (.getfield 17, 3) := by decide +kernel
theorem d_P_isConflict_24 : decode m_P_isConflict.2.1 24 = .ok (.iload_n 2, 1) := by decide +kernel
theorem d_P_isConflict_25 : decode m_P_isConflict.2.1 25 = .ok (.iaload, 1) := by decide +kernel
theorem d_P_isConflict_26 : decode m_P_isConflict.2.1 26 = .ok (.iadd, 1) := by decide +kernel
theorem d_P_isConflict_27 : decode m_P_isConflict.2.1 27 = .ok (.iaload, 1) := by decide +kernel
theorem d_P_isConflict_28 : decode m_P_isConflict.2.1 28 = .ok (.istore_n 3, 1) := by decide +kernel
theorem d_P_isConflict_29 : decode m_P_isConflict.2.1 29 = .ok (.iconst 0, 1) := by decide +kernel
theorem d_P_isConflict_30 : decode m_P_isConflict.2.1 30 = .ok (.istore 4, 2) := by decide +kernel
theorem d_P_isConflict_32 : decode m_P_isConflict.2.1 32 = .ok (.iload 4, 2) := by decide +kernel
theorem d_P_isConflict_34 : decode m_P_isConflict.2.1 34 = .ok (.bipush 11, 2) := by decide +kernel
theorem d_P_isConflict_36 : decode m_P_isConflict.2.1 36 = .ok (.if_icmp .ge 136, 3) := by decide +kernel
theorem d_P_isConflict_39 : decode m_P_isConflict.2.1 39 = .ok (.iload_n 3, 1) := by decide +kernel
theorem d_P_isConflict_40 : decode m_P_isConflict.2.1 40 = .ok (.ifCond .eq 132, 3) := by decide +kernel
theorem d_P_isConflict_43 : decode m_P_isConflict.2.1 43 = .ok (.iconst 0, 1) := by decide +kernel
theorem d_P_isConflict_44 : decode m_P_isConflict.2.1 44 = .ok (.istore 5, 2) := by decide +kernel
theorem d_P_isConflict_46 : decode m_P_isConflict.2.1 46 = .ok (.iload 5, 2) := by decide +kernel
theorem d_P_isConflict_48 : decode m_P_isConflict.2.1 48 = .ok (.iconst 5, 1) := by decide +kernel
theorem d_P_isConflict_49 : decode m_P_isConflict.2.1 49 = .ok (.if_icmp .ge 117, 3) := by decide +kernel
theorem d_P_isConflict_52 : decode m_P_isConflict.2.1 52 = .ok (.iload 4, 2) := by decide +kernel
theorem d_P_isConflict_54 : decode m_P_isConflict.2.1 54 = .ok (.iload_n 2, 1) := by decide +kernel
theorem d_P_isConflict_55 : decode m_P_isConflict.2.1 55 = .ok (.if_icmp .ne 14, 3) := by decide +kernel
theorem d_P_isConflict_58 : decode m_P_isConflict.2.1 58 = .ok (.iload 5, 2) := by decide +kernel
theorem d_P_isConflict_60 : decode m_P_isConflict.2.1 60 = .ok (.aload_n 0, 1) := by decide +kernel
theorem d_P_isConflict_61 : decode m_P_isConflict.2.1 61 = .ok (.getfield 17, 3) := by decide +kernel
theorem d_P_isConflict_64 : decode m_P_isConflict.2.1 64 = .ok (.iload_n 2, 1) := by decide +kernel
theorem d_P_isConflict_65 : decode m_P_isConflict.2.1 65 = .ok (.iaload, 1) := by decide +kernel
theorem d_P_isConflict_66 : decode m_P_isConflict.2.1 66 = .ok (.if_icmp .eq 15, 3) := by decide +kernel
theorem d_P_isConflict_69 : decode m_P_isConflict.2.1 69 = .ok (.iload 5, 2) := by decide +kernel
theorem d_P_isConflict_71 : decode m_P_isConflict.2.1 71 = .ok (.aload_n 0, 1) := by decide +kernel
theorem d_P_isConflict_72 : decode m_P_isConflict.2.1 72 = .ok (.getfield 17, 3) := by decide +kernel
theorem d_P_isConflict_75 : decode m_P_isConflict.2.1 75 = .ok (.iload 4, 2) := by decide +kernel
theorem d_P_isConflict_77 : decode m_P_isConflict.2.1 77 = .ok (.iaload, 1) := by decide +kernel
theorem d_P_isConflict_78 : decode m_P_isConflict.2.1 78 = .ok (.if_icmp .le 7, 3) := by decide +kernel
theorem d_P_isConflict_81 : decode m_P_isConflict.2.1 81 = .ok (.iconst 0, 1) := by decide +kernel
theorem d_P_isConflict_82 : decode m_P_isConflict.2.1 82 = .ok (.goto 20, 3) := by decide +kernel
theorem d_P_isConflict_85 : decode m_P_isConflict.2.1 85 = .ok (.aload_n 0, 1) := by decide +kernel
theorem d_P_isConflict_86 : decode m_P_isConflict.2.1 86 = .ok (.getfield 36, 3) := by decide +kernel
theorem d_P_isConflict_89 : decode m_P_isConflict.2.1 89 = .ok (.bipush 55, 2) := by decide +kernel
theorem d_P_isConflict_91 : decode m_P_isConflict.2.1 91 = .ok (.iload_n 1, 1) := by decide +kernel
theorem d_P_isConflict_92 : decode m_P_isConflict.2.1 92 = .ok (.imul, 1) := by decide +kernel
theorem d_P_isConflict_93 : decode m_P_isConflict.2.1 93 = .ok (.iconst 5, 1) := by decide +kernel
theorem d_P_isConflict_94 : decode m_P_isConflict.2.1 94 = .ok (.iload 4, 2) := by decide +kernel
theorem d_P_isConflict_96 : decode m_P_isConflict.2.1 96 = .ok (.imul, 1) := by decide +kernel
theorem d_P_isConflict_97 : decode m_P_isConflict.2.1 97 = .ok (.iadd, 1) := by decide +kernel
theorem d_P_isConflict_98 : decode m_P_isConflict.2.1 98 = .ok (.iload 5, 2) := by decide +kernel
theorem d_P_isConflict_100 : decode m_P_isConflict.2.1 100 = .ok (.iadd, 1) := by decide +kernel
theorem d_P_isConflict_101 : decode m_P_isConflict.2.1 101 = .ok (.iaload, 1) := by decide +kernel
theorem d_P_isConflict_102 : decode m_P_isConflict.2.1 102 = .ok (.istore 6, 2) := by decide +kernel
theorem d_P_isConflict_104 : decode m_P_isConflict.2.1 104 = .ok (.aload_n 0, 1) := by decide +kernel
theorem d_P_isConflict_105 : decode m_P_isConflict.2.1 105 = .ok (.iload 4, 2) := by decide +kernel
theorem d_P_isConflict_107 : decode m_P_isConflict.2.1 107 = .ok (.iload 5, 2) := by decide +kernel
theorem d_P_isConflict_109 : decode m_P_isConflict.2.1 109 = .ok (.invokevirtual 107, 3) := by decide +kernel
theorem d_P_isConflict_112 : decode m_P_isConflict.2.1 112 = .ok (.istore 7, 2) := by decide +kernel
theorem d_P_isConflict_114 : decode m_P_isConflict.2.1 114 = .ok (.iload 6, 2) := by decide +kernel
theorem d_P_isConflict_116 : decode m_P_isConflict.2.1 116 = .ok (.ifCond .eq 44, 3) := by decide +kernel
theorem d_P_isConflict_119 : decode m_P_isConflict.2.1 119 = .ok (.iload 5, 2) := by decide +kernel
theorem d_P_isConflict_121 : decode m_P_isConflict.2.1 121 = .ok (.aload_n 0, 1) := by decide +kernel
theorem d_P_isConflict_122 : decode m_P_isConflict.2.1 122 = .ok (.getfield 17, 3) := by decide +kernel
theorem d_P_isConflict_125 : decode m_P_isConflict.2.1 125 = .ok (.iload 4, 2) := by decide +kernel
theorem d_P_isConflict_127 : decode m_P_isConflict.2.1 127 = .ok (.iaload, 1) := by decide +kernel
theorem d_P_isConflict_128 : decode m_P_isConflict.2.1 128 = .ok (.if_icmp .ne 13, 3) := by decide +kernel
theorem d_P_isConflict_131 : decode m_P_isConflict.2.1 131 = .ok (.iload 6, 2) := by decide +kernel
theorem d_P_isConflict_133 : decode m_P_isConflict.2.1 133 = .ok (.iload_n 3, 1) := by decide +kernel
theorem d_P_isConflict_134 : decode m_P_isConflict.2.1 134 = .ok (.iand, 1) := by decide +kernel
theorem d_P_isConflict_135 : decode m_P_isConflict.2.1 135 = .ok (.ifCond .eq 25, 3) := by decide +kernel
theorem d_P_isConflict_138 : decode m_P_isConflict.2.1 138 = .ok (.goto 20, 3) := by decide +kernel
theorem d_P_isConflict_141 : decode m_P_isConflict.2.1 141 = .ok (.iload 7, 2) := by decide +kernel
theorem d_P_isConflict_143 : decode m_P_isConflict.2.1 143 = .ok (.bipush 6, 2) := by decide +kernel
theorem d_P_isConflict_145 : decode m_P_isConflict.2.1 145 = .ok (.if_icmp .ge 15, 3) := by decide +kernel
theorem d_P_isConflict_148 : decode m_P_isConflict.2.1 148 = .ok (.iload_n 3, 1) := by decide +kernel
theorem d_P_isConflict_149 : decode m_P_isConflict.2.1 149 = .ok (.iload 7, 2) := by decide +kernel
theorem d_P_isConflict_151 : decode m_P_isConflict.2.1 151 = .ok (.ishr, 1) := by decide +kernel
theorem d_P_isConflict_152 : decode m_P_isConflict.2.1 152 = .ok (.iconst 1, 1) := by decide +kernel
theorem d_P_isConflict_153 : decode m_P_isConflict.2.1 153 = .ok (.iand, 1) := by decide +kernel
theorem d_P_isConflict_154 : decode m_P_isConflict.2.1 154 = .ok (.iconst 1, 1) := by decide +kernel
theorem d_P_isConflict_155 : decode m_P_isConflict.2.1 155 = .ok (.if_icmp .ne 5, 3) := by decide +kernel
theorem d_P_isConflict_158 : decode m_P_isConflict.2.1 158 = .ok (.iconst 1, 1) := by decide +kernel
theorem d_P_isConflict_159 : decode m_P_isConflict.2.1 159 = .ok (.ireturn, 1) := by decide +kernel
theorem d_P_isConflict_160 : decode m_P_isConflict.2.1 160 = .ok (.iinc 5 1, 3) := by decide +kernel
theorem d_P_isConflict_163 : decode m_P_isConflict.2.1 163 = .ok (.goto (-117), 3) := by decide +kernel
theorem d_P_isConflict_166 : decode m_P_isConflict.2.1 166 = .ok (.iinc 4 1, 3) := by decide +kernel
theorem d_P_isConflict_169 : decode m_P_isConflict.2.1 169 = .ok (.goto (-137), 3) := by decide +kernel
theorem d_P_isConflict_172 : decode m_P_isConflict.2.1 172 = .ok (.iinc 2 1, 3) := by decide +kernel
theorem d_P_isConflict_175 : decode m_P_isConflict.2.1 175 = .ok (.goto (-173), 3) := by decide +kernel
theorem d_P_isConflict_178 : decode m_P_isConflict.2.1 178 = .ok (.iconst 0, 1) := by decide +kernel
theorem d_P_isConflict_179 : decode m_P_isConflict.2.1 179 = .ok (.ireturn, 1) := by decide +kernel
theorem d_P_text_0 : decode m_P_text.2.1 0 = .ok (.aload_n 0, 1) := by decide +kernel
theorem d_P_text_1 : decode m_P_text.2.1 1 = .ok (.iconst 0, 1) := by decide +kernel
theorem d_P_text_2 : decode m_P_text.2.1 2 = .ok (.putfield 66, 3) := by decide +kernel
theorem d_P_text_5 : decode m_P_text.2.1 5 = .ok (.aload_n 0, 1) := by decide +kernel
theorem d_P_text_6 : decode m_P_text.2.1 6 = .ok (.getfield 70, 3) := by decide +kernel
theorem d_P_text_9 : decode m_P_text.2.1 9 = .ok (.istore_n 1, 1) := by decide +kernel
theorem d_P_text_10 : decode m_P_text.2.1 10 = .ok (.aload_n 0, 1) := by decide +kernel
theorem d_P_text_11 : decode m_P_text.2.1 11 = .ok (.iconst 0, 1) := by decide +kernel
theorem d_P_text_12 : decode m_P_text.2.1 12 = .ok (.putfield 70, 3) := by decide +kernel
theorem d_P_text_15 : decode m_P_text.2.1 15 = .ok (.iload_n 1, 1) := by decide +kernel
theorem d_P_text_16 : decode m_P_text.2.1 16 = .ok (.bipush 8, 2) := by decide +kernel
theorem d_P_text_18 : decode m_P_text.2.1 18 = .ok (.if_icmp .gt 7, 3) := by decide +kernel
theorem d_P_text_21 : decode m_P_text.2.1 21 = .ok (.iconst 1, 1) := by decide +kernel
theorem d_P_text_22 : decode m_P_text.2.1 22 = .ok (.goto 4, 3) := by decide +kernel
theorem d_P_text_25 : decode m_P_text.2.1 25 = .ok (.iconst 0, 1) := by decide +kernel
theorem d_P_text_26 : decode m_P_text.2.1 26 = .ok (.istore_n 2, 1) := by decide +kernel
theorem d_P_text_27 : decode m_P_text.2.1 27 = .ok (.iconst 0, 1) := by decide +kernel
theorem d_P_text_28 : decode m_P_text.2.1 28 = .ok (.istore_n 3, 1) := by decide +kernel
theorem d_P_text_29 : decode m_P_text.2.1 29 = .ok (.iload_n 3, 1) := by decide +kernel
theorem d_P_text_30 : decode m_P_text.2.1 30 = .ok (.iload_n 1, 1) := by decide +kernel
theorem d_P_text_31 : decode m_P_text.2.1 31 = .ok (.if_icmp .ge 23, 3) := by decide +kernel
theorem d_P_text_34 : decode m_P_text.2.1 34 = .ok (.iload_n 2, 1) := by decide +kernel
theorem d_P_text_35 : decode m_P_text.2.1 35 = .ok (.ifCond .eq 19, 3) := by decide +kernel
theorem d_P_text_38 : decode m_P_text.2.1 38 = .ok (.aload_n 0, 1) := by decide +kernel
theorem d_P_text_39 : decode m_P_text.2.1 39 = .ok (.getfield 7, 3) := by decide +kernel
theorem d_P_text_42 : decode m_P_text.2.1 42 = .ok (.iload_n 3, 1) := by decide +kernel
theorem d_P_text_43 : decode m_P_text.2.1 43 = .ok (.caload, 1) := by decide +kernel
theorem d_P_text_44 : decode m_P_text.2.1 44 = .ok (.invokestatic 83, 3) := by decide +kernel
theorem d_P_text_47 : decode m_P_text.2.1 47 = .ok (.istore_n 2, 1) := by decide +kernel
theorem d_P_text_48 : decode m_P_text.2.1 48 = .ok (.iinc 3 1, 3) := by decide +kernel
theorem d_P_text_51 : decode m_P_text.2.1 51 = .ok (.goto (-22), 3) := by decide +kernel
theorem d_P_text_54 : decode m_P_text.2.1 54 = .ok (.iload_n 2, 1) := by decide +kernel
theorem d_P_text_55 : decode m_P_text.2.1 55 = .ok (.ifCond .ne 9, 3) := by decide +kernel
theorem d_P_text_58 : decode m_P_text.2.1 58 = .ok (.aload_n 0, 1) := by decide +kernel
theorem d_P_text_59 : decode m_P_text.2.1 59 = .ok (.iconst 1, 1) := by decide +kernel
theorem d_P_text_60 : decode m_P_text.2.1 60 = .ok (.invokevirtual 86, 3) := by decide +kernel
theorem d_P_text_63 : decode m_P_text.2.1 63 = .ok (.ireturn, 1) := by decide +kernel
theorem d_P_text_64 : decode m_P_text.2.1 64 = .ok (.aload_n 0, 1) := by decide +kernel
theorem d_P_text_65 : decode m_P_text.2.1 65 = .ok (.iload_n 1, 1) := by decide +kernel
theorem d_P_text_66 : decode m_P_text.2.1 66 = .ok (.putfield 135, 3) := by decide +kernel
theorem d_P_text_69 : decode m_P_text.2.1 69 = .ok (.iconst 0, 1) := by decide +kernel
theorem d_P_text_70 : decode m_P_text.2.1 70 = .ok (.istore_n 3, 1) := by decide +kernel
theorem d_P_text_71 : decode m_P_text.2.1 71 = .ok (.iload_n 3, 1) := by decide +kernel
theorem d_P_text_72 : decode m_P_text.2.1 72 = .ok (.iload_n 1, 1) := by decide +kernel
theorem d_P_text_73 : decode m_P_text.2.1 73 = .ok (.if_icmp .ge 24, 3) := by decide +kernel
theorem d_P_text_76 : decode m_P_text.2.1 76 = .ok (.aload_n 0, 1) := by decide +kernel
theorem d_P_text_77 : decode m_P_text.2.1 77 = .ok (.getfield 42, 3) := by decide +kernel
theorem d_P_text_80 : decode m_P_text.2.1 80 = .ok (.iload_n 3, 1) := by decide +kernel
theorem d_P_text_81 : decode m_P_text.2.1 81 = .ok (.aload_n 0, 1) := by decide +kernel
theorem d_P_text_82 : decode m_P_text.2.1 82 = .ok (.getfield 7, 3) := by decide +kernel
theorem d_P_text_85 : decode m_P_text.2.1 85 = .ok (.iload_n 3, 1) := by decide +kernel
theorem d_P_text_86 : decode m_P_text.2.1 86 = .ok (.caload, 1) := by decide +kernel
theorem d_P_text_87 : decode m_P_text.2.1 87 = .ok (.bipush 97, 2) := by decide +kernel
theorem d_P_text_89 : decode m_P_text.2.1 89 = .ok (.isub, 1) := by decide +kernel
theorem d_P_text_90 : decode m_P_text.2.1 90 = .ok (.iastore, 1) := by decide +kernel
theorem d_P_text_91 : decode m_P_text.2.1 91 = .ok (.iinc 3 1, 3) := by decide +kernel
theorem d_P_text_94 : decode m_P_text.2.1 94 = .ok (.goto (-23), 3) := by decide +kernel
theorem d_P_text_97 : decode m_P_text.2.1 97 = .ok (.aload_n 0, 1) := by decide +kernel
theorem d_P_text_98 : decode m_P_text.2.1 98 = .ok (.invokevirtual 96, 3) := by decide +kernel
theorem d_P_text_101 : decode m_P_text.2.1 101 = .ok (.iload_n 1, 1) := by decide +kernel
theorem d_P_text_102 : decode m_P_text.2.1 102 = .ok (.ireturn, 1) := by decide +kernel
theorem d_P_cost_0 : decode m_P_cost.2.1 0 = .ok (.aload_n 0, 1) := by decide +kernel
theorem d_P_cost_1 : decode m_P_cost.2.1 1 = .ok (.iconst 0, 1) := by decide +kernel
theorem d_P_cost_2 : decode m_P_cost.2.1 2 = .ok (.putfield 66, 3) := by decide +kernel
theorem d_P_cost_5 : decode m_P_cost.2.1 5 = .ok (.iload_n 1, 1) := by decide +kernel
theorem d_P_cost_6 : decode m_P_cost.2.1 6 = .ok (.ifCond .lt 18, 3) := by decide +kernel
theorem d_P_cost_9 : decode m_P_cost.2.1 9 = .ok (.iload_n 1, 1) := by decide +kernel
theorem d_P_cost_10 : decode m_P_cost.2.1 10 = .ok (.iconst 5, 1) := by decide +kernel
theorem d_P_cost_11 : decode m_P_cost.2.1 11 = .ok (.if_icmp .gt 13, 3) := by decide +kernel
theorem d_P_cost_14 : decode m_P_cost.2.1 14 = .ok (.iload_n 3, 1) := by decide +kernel
theorem d_P_cost_15 : decode m_P_cost.2.1 15 = .ok (.iconst 1, 1) := by decide +kernel
theorem d_P_cost_16 : decode m_P_cost.2.1 16 = .ok (.if_icmp .lt 8, 3) := by decide +kernel
theorem d_P_cost_19 : decode m_P_cost.2.1 19 = .ok (.iload_n 3, 1) := by decide +kernel
theorem d_P_cost_20 : decode m_P_cost.2.1 20 = .ok (.iconst 3, 1) := by decide +kernel
theorem d_P_cost_21 : decode m_P_cost.2.1 21 = .ok (.if_icmp .le 5, 3) := by decide +kernel
theorem d_P_cost_24 : decode m_P_cost.2.1 24 = .ok (.iconst 0, 1) := by decide +kernel
theorem d_P_cost_25 : decode m_P_cost.2.1 25 = .ok (.ireturn, 1) := by decide +kernel
theorem d_P_cost_26 : decode m_P_cost.2.1 26 = .ok (.iload_n 2, 1) := by decide +kernel
theorem d_P_cost_27 : decode m_P_cost.2.1 27 = .ok (.ifCond .eq 13, 3) := by decide +kernel
theorem d_P_cost_30 : decode m_P_cost.2.1 30 = .ok (.aload_n 0, 1) := by decide +kernel
theorem d_P_cost_31 : decode m_P_cost.2.1 31 = .ok (.getfield 54, 3) := by decide +kernel
theorem d_P_cost_34 : decode m_P_cost.2.1 34 = .ok (.iload_n 1, 1) := by decide +kernel
theorem d_P_cost_35 : decode m_P_cost.2.1 35 = .ok (.iload_n 3, 1) := by decide +kernel
theorem d_P_cost_36 : decode m_P_cost.2.1 36 = .ok (.iastore, 1) := by decide +kernel
theorem d_P_cost_37 : decode m_P_cost.2.1 37 = .ok (.goto 10, 3) := by decide +kernel
theorem d_P_cost_40 : decode m_P_cost.2.1 40 = .ok (.aload_n 0, 1) := by decide +kernel
theorem d_P_cost_41 : decode m_P_cost.2.1 41 = .ok (.getfield 51, 3) := by decide +kernel
theorem d_P_cost_44 : decode m_P_cost.2.1 44 = .ok (.iload_n 1, 1) := by decide +kernel
theorem d_P_cost_45 : decode m_P_cost.2.1 45 = .ok (.iload_n 3, 1) := by decide +kernel
theorem d_P_cost_46 : decode m_P_cost.2.1 46 = .ok (.iastore, 1) := by decide +kernel
theorem d_P_cost_47 : decode m_P_cost.2.1 47 = .ok (.iconst 1, 1) := by decide +kernel
theorem d_P_cost_48 : decode m_P_cost.2.1 48 = .ok (.ireturn, 1) := by decide +kernel
theorem d_P_parse_0 : decode m_P_parse.2.1 0 = .ok (.aload_n 0, 1) := by decide +kernel
theorem d_P_parse_1 : decode m_P_parse.2.1 1 = .ok (.iconst 0, 1) := by decide +kernel
theorem d_P_parse_2 : decode m_P_parse.2.1 2 = .ok (.putfield 66, 3) := by decide +kernel
theorem d_P_parse_5 : decode m_P_parse.2.1 5 = .ok (.aload_n 0, 1) := by decide +kernel
theorem d_P_parse_6 : decode m_P_parse.2.1 6 = .ok (.getfield 93, 3) := by decide +kernel
theorem d_P_parse_9 : decode m_P_parse.2.1 9 = .ok (.ifCond .ne 11, 3) := by decide +kernel
theorem d_P_parse_12 : decode m_P_parse.2.1 12 = .ok (.aload_n 0, 1) := by decide +kernel
theorem d_P_parse_13 : decode m_P_parse.2.1 13 = .ok (.iconst 1, 1) := by decide +kernel
theorem d_P_parse_14 : decode m_P_parse.2.1 14 = .ok (.invokevirtual 86, 3) := by decide +kernel
theorem d_P_parse_17 : decode m_P_parse.2.1 17 = .ok (.goto 7, 3) := by decide +kernel
theorem d_P_parse_20 : decode m_P_parse.2.1 20 = .ok (.aload_n 0, 1) := by decide +kernel
theorem d_P_parse_21 : decode m_P_parse.2.1 21 = .ok (.invokevirtual 142, 3) := by decide +kernel
theorem d_P_parse_24 : decode m_P_parse.2.1 24 = .ok (.ireturn, 1) := by decide +kernel
theorem d_P_parsed_0 : decode m_P_parsed.2.1 0 = .ok (.iconst 0, 1) := by decide +kernel
theorem d_P_parsed_1 : decode m_P_parsed.2.1 1 = .ok (.istore_n 1, 1) := by decide +kernel
theorem d_P_parsed_2 : decode m_P_parsed.2.1 2 = .ok (.iload_n 1, 1) := by decide +kernel
theorem d_P_parsed_3 : decode m_P_parsed.2.1 3 = .ok (.aload_n 0, 1) := by decide +kernel
theorem d_P_parsed_4 : decode m_P_parsed.2.1 4 = .ok (.getfield 135, 3) := by decide +kernel
theorem d_P_parsed_7 : decode m_P_parsed.2.1 7 = .ok (.if_icmp .ge 21, 3) := by decide +kernel
theorem d_P_parsed_10 : decode m_P_parsed.2.1 10 = .ok (.aload_n 0, 1) := by decide +kernel
theorem d_P_parsed_11 : decode m_P_parsed.2.1 11 = .ok (.getfield 45, 3) := by decide +kernel
theorem d_P_parsed_14 : decode m_P_parsed.2.1 14 = .ok (.iload_n 1, 1) := by decide +kernel
theorem d_P_parsed_15 : decode m_P_parsed.2.1 15 = .ok (.aload_n 0, 1) := by decide +kernel
theorem d_P_parsed_16 : decode m_P_parsed.2.1 16 = .ok (.getfield 42, 3) := by decide +kernel
theorem d_P_parsed_19 : decode m_P_parsed.2.1 19 = .ok (.iload_n 1, 1) := by decide +kernel
theorem d_P_parsed_20 : decode m_P_parsed.2.1 20 = .ok (.iaload, 1) := by decide +kernel
theorem d_P_parsed_21 : decode m_P_parsed.2.1 21 = .ok (.iastore, 1) := by decide +kernel
theorem d_P_parsed_22 : decode m_P_parsed.2.1 22 = .ok (.iinc 1 1, 3) := by decide +kernel
theorem d_P_parsed_25 : decode m_P_parsed.2.1 25 = .ok (.goto (-23), 3) := by decide +kernel
theorem d_P_parsed_28 : decode m_P_parsed.2.1 28 = .ok (.aload_n 0, 1) := by decide +kernel
theorem d_P_parsed_29 : decode m_P_parsed.2.1 29 = .ok (.aload_n 0, 1) := by decide +kernel
theorem d_P_parsed_30 : decode m_P_parsed.2.1 30 = .ok (.getfield 135, 3) := by decide +kernel
theorem d_P_parsed_33 : decode m_P_parsed.2.1 33 = .ok (.iconst 1, 1) := by decide +kernel
theorem d_P_parsed_34 : decode m_P_parsed.2.1 34 = .ok (.invokevirtual 138, 3) := by decide +kernel
theorem d_P_parsed_37 : decode m_P_parsed.2.1 37 = .ok (.ireturn, 1) := by decide +kernel
theorem d_P_wrongAt_0 : decode m_P_wrongAt.2.1 0 = .ok (.iconst 0, 1) := by decide +kernel
theorem d_P_wrongAt_1 : decode m_P_wrongAt.2.1 1 = .ok (.istore_n 3, 1) := by decide +kernel
theorem d_P_wrongAt_2 : decode m_P_wrongAt.2.1 2 = .ok (.iconst 0, 1) := by decide +kernel
theorem d_P_wrongAt_3 : decode m_P_wrongAt.2.1 3 = .ok (.istore 4, 2) := by decide +kernel
theorem d_P_wrongAt_5 : decode m_P_wrongAt.2.1 5 = .ok (.aload_n 0, 1) := by decide +kernel
theorem d_P_wrongAt_6 : decode m_P_wrongAt.2.1 6 = .ok (.getfield 48, 3) := by decide +kernel
theorem d_P_wrongAt_9 : decode m_P_wrongAt.2.1 9 = .ok (.iconst 0, 1) := by decide +kernel
theorem d_P_wrongAt_10 : decode m_P_wrongAt.2.1 10 = .ok (.iconst 0, 1) := by decide +kernel
theorem d_P_wrongAt_11 : decode m_P_wrongAt.2.1 11 = .ok (.iastore, 1) := by decide +kernel
theorem d_P_wrongAt_12 : decode m_P_wrongAt.2.1 12 = .ok (.iload 4, 2) := by decide +kernel
theorem d_P_wrongAt_14 : decode m_P_wrongAt.2.1 14 = .ok (.iload_n 1, 1) := by decide +kernel
theorem d_P_wrongAt_15 : decode m_P_wrongAt.2.1 15 = .ok (.if_icmp .lt 7, 3) := by decide +kernel
theorem d_P_wrongAt_18 : decode m_P_wrongAt.2.1 18 = .ok (.iload_n 2, 1) := by decide +kernel
theorem d_P_wrongAt_19 : decode m_P_wrongAt.2.1 19 = .ok (.ifCond .eq 163, 3) := by decide +kernel
theorem d_P_wrongAt_22 : decode m_P_wrongAt.2.1 22 = .ok (.iload 4, 2) := by decide +kernel
theorem d_P_wrongAt_24 : decode m_P_wrongAt.2.1 24 = .ok (.iload_n 1, 1) := by decide +kernel
theorem d_P_wrongAt_25 : decode m_P_wrongAt.2.1 25 = .ok (.if_icmp .ge 13, 3) := by decide +kernel
theorem d_P_wrongAt_28 : decode m_P_wrongAt.2.1 28 = .ok (.aload_n 0, 1) := by decide +kernel
theorem d_P_wrongAt_29 : decode m_P_wrongAt.2.1 29 = .ok (.getfield 45, 3) := by decide +kernel
theorem d_P_wrongAt_32 : decode m_P_wrongAt.2.1 32 = .ok (.iload 4, 2) := by decide +kernel
theorem d_P_wrongAt_34 : decode m_P_wrongAt.2.1 34 = .ok (.iaload, 1) := by decide +kernel
theorem d_P_wrongAt_35 : decode m_P_wrongAt.2.1 35 = .ok (.goto 5, 3) := by decide +kernel
theorem d_P_wrongAt_38 : decode m_P_wrongAt.2.1 38 = .ok (.bipush 6, 2) := by decide +kernel
theorem d_P_wrongAt_40 : decode m_P_wrongAt.2.1 40 = .ok (.istore 5, 2) := by decide +kernel
theorem d_P_wrongAt_42 : decode m_P_wrongAt.2.1 42 = .ok (.aload_n 0, 1) := by decide +kernel
theorem d_P_wrongAt_43 : decode m_P_wrongAt.2.1 43 = .ok (.getfield 48, 3) := by decide +kernel
theorem d_P_wrongAt_46 : decode m_P_wrongAt.2.1 46 = .ok (.iload_n 3, 1) := by decide +kernel
theorem d_P_wrongAt_47 : decode m_P_wrongAt.2.1 47 = .ok (.iaload, 1) := by decide +kernel
theorem d_P_wrongAt_48 : decode m_P_wrongAt.2.1 48 = .ok (.istore 6, 2) := by decide +kernel
theorem d_P_wrongAt_50 : decode m_P_wrongAt.2.1 50 = .ok (.iload 5, 2) := by decide +kernel
theorem d_P_wrongAt_52 : decode m_P_wrongAt.2.1 52 = .ok (.bipush 6, 2) := by decide +kernel
theorem d_P_wrongAt_54 : decode m_P_wrongAt.2.1 54 = .ok (.if_icmp .ge 19, 3) := by decide +kernel
theorem d_P_wrongAt_57 : decode m_P_wrongAt.2.1 57 = .ok (.aload_n 0, 1) := by decide +kernel
theorem d_P_wrongAt_58 : decode m_P_wrongAt.2.1 58 = .ok (.getfield 39, 3) := by decide +kernel
theorem d_P_wrongAt_61 : decode m_P_wrongAt.2.1 61 = .ok (.bipush 12, 2) := by decide +kernel
theorem d_P_wrongAt_63 : decode m_P_wrongAt.2.1 63 = .ok (.iload 6, 2) := by decide +kernel
theorem d_P_wrongAt_65 : decode m_P_wrongAt.2.1 65 = .ok (.imul, 1) := by decide +kernel
theorem d_P_wrongAt_66 : decode m_P_wrongAt.2.1 66 = .ok (.iload 5, 2) := by decide +kernel
theorem d_P_wrongAt_68 : decode m_P_wrongAt.2.1 68 = .ok (.iadd, 1) := by decide +kernel
theorem d_P_wrongAt_69 : decode m_P_wrongAt.2.1 69 = .ok (.iaload, 1) := by decide +kernel
theorem d_P_wrongAt_70 : decode m_P_wrongAt.2.1 70 = .ok (.goto 4, 3) := by decide +kernel
theorem d_P_wrongAt_73 : decode m_P_wrongAt.2.1 73 = .ok (.iconst (-1), 1) := by decide +kernel
theorem d_P_wrongAt_74 : decode m_P_wrongAt.2.1 74 = .ok (.istore 7, 2) := by decide +kernel
theorem d_P_wrongAt_76 : decode m_P_wrongAt.2.1 76 = .ok (.iload 7, 2) := by decide +kernel
theorem d_P_wrongAt_78 : decode m_P_wrongAt.2.1 78 = .ok (.ifCond .lt 7, 3) := by decide +kernel
theorem d_P_wrongAt_81 : decode m_P_wrongAt.2.1 81 = .ok (.iconst (-1), 1) := by decide +kernel
theorem d_P_wrongAt_82 : decode m_P_wrongAt.2.1 82 = .ok (.goto 11, 3) := by decide +kernel
theorem d_P_wrongAt_85 : decode m_P_wrongAt.2.1 85 = .ok (.aload_n 0, 1) := by decide +kernel
theorem d_P_wrongAt_86 : decode m_P_wrongAt.2.1 86 = .ok (.iload 6, 2) := by decide +kernel
theorem d_P_wrongAt_88 : decode m_P_wrongAt.2.1 88 = .ok (.iload 5, 2) := by decide +kernel
theorem d_P_wrongAt_90 : decode m_P_wrongAt.2.1 90 = .ok (.invokevirtual 132, 3) := by decide +kernel
theorem d_P_wrongAt_93 : decode m_P_wrongAt.2.1 93 = .ok (.istore 8, 2) := by decide +kernel
theorem d_P_wrongAt_95 : decode m_P_wrongAt.2.1 95 = .ok (.iload 7, 2) := by decide +kernel
theorem d_P_wrongAt_97 : decode m_P_wrongAt.2.1 97 = .ok (.ifCond .lt 20, 3) := by decide +kernel
theorem d_P_wrongAt_100 : decode m_P_wrongAt.2.1 100 = .ok (.iinc 3 1, 3) := by decide +kernel
theorem d_P_wrongAt_103 : decode m_P_wrongAt.2.1 103 = .ok (.aload_n 0, 1) := by decide +kernel
theorem d_P_wrongAt_104 : decode m_P_wrongAt.2.1 104 = .ok (.getfield 48, 3) := by decide +kernel
theorem d_P_wrongAt_107 : decode m_P_wrongAt.2.1 107 = .ok (.iload_n 3, 1) := by decide +kernel
theorem d_P_wrongAt_108 : decode m_P_wrongAt.2.1 108 = .ok (.iload 7, 2) := by decide +kernel
theorem d_P_wrongAt_110 : decode m_P_wrongAt.2.1 110 = .ok (.iastore, 1) := by decide +kernel
theorem d_P_wrongAt_111 : decode m_P_wrongAt.2.1 111 = .ok (.iinc 4 1, 3) := by decide +kernel
theorem d_P_wrongAt_114 : decode m_P_wrongAt.2.1 114 = .ok (.goto 65, 3) := by decide +kernel
theorem d_P_wrongAt_117 : decode m_P_wrongAt.2.1 117 = .ok (.iload 8, 2) := by decide +kernel
theorem d_P_wrongAt_119 : decode m_P_wrongAt.2.1 119 = .ok (.ifCond .ge 6, 3) := by decide +kernel
theorem d_P_wrongAt_122 : decode m_P_wrongAt.2.1 122 = .ok (.iload 4, 2) := by decide +kernel
theorem d_P_wrongAt_124 : decode m_P_wrongAt.2.1 124 = .ok (.ireturn, 1) := by decide +kernel
theorem d_P_wrongAt_125 : decode m_P_wrongAt.2.1 125 = .ok (.iload 8, 2) := by decide +kernel
theorem d_P_wrongAt_127 : decode m_P_wrongAt.2.1 127 = .ok (.bipush 10, 2) := by decide +kernel
theorem d_P_wrongAt_129 : decode m_P_wrongAt.2.1 129 = .ok (.if_icmp .ne 5, 3) := by decide +kernel
theorem d_P_wrongAt_132 : decode m_P_wrongAt.2.1 132 = .ok (.iconst (-1), 1) := by decide +kernel
theorem d_P_wrongAt_133 : decode m_P_wrongAt.2.1 133 = .ok (.ireturn, 1) := by decide +kernel
theorem d_P_wrongAt_134 : decode m_P_wrongAt.2.1 134 = .ok (.iload_n 3, 1) := by decide +kernel
theorem d_P_wrongAt_135 : decode m_P_wrongAt.2.1 135 = .ok (.aload_n 0, 1) := by decide +kernel
theorem d_P_wrongAt_136 : decode m_P_wrongAt.2.1 136 = .ok (.getfield 17, 3) := by decide +kernel
theorem d_P_wrongAt_139 : decode m_P_wrongAt.2.1 139 = .ok (.iload 8, 2) := by decide +kernel
theorem d_P_wrongAt_141 : decode m_P_wrongAt.2.1 141 = .ok (.iaload, 1) := by decide +kernel
theorem d_P_wrongAt_142 : decode m_P_wrongAt.2.1 142 = .ok (.isub, 1) := by decide +kernel
theorem d_P_wrongAt_143 : decode m_P_wrongAt.2.1 143 = .ok (.iconst 1, 1) := by decide +kernel
theorem d_P_wrongAt_144 : decode m_P_wrongAt.2.1 144 = .ok (.iadd, 1) := by decide +kernel
theorem d_P_wrongAt_145 : decode m_P_wrongAt.2.1 145 = .ok (.istore_n 3, 1) := by decide +kernel
theorem d_P_wrongAt_146 : decode m_P_wrongAt.2.1 146 = .ok (.aload_n 0, 1) := by decide +kernel
theorem d_P_wrongAt_147 : decode m_P_wrongAt.2.1 147 = .ok (.getfield 48, 3) := by decide +kernel
theorem d_P_wrongAt_150 : decode m_P_wrongAt.2.1 150 = .ok (.iload_n 3, 1) := by decide +kernel
theorem d_P_wrongAt_151 : decode m_P_wrongAt.2.1 151 = .ok (.aload_n 0, 1) := by decide +kernel
theorem d_P_wrongAt_152 : decode m_P_wrongAt.2.1 152 = .ok (.getfield 39, 3) := by decide +kernel
theorem d_P_wrongAt_155 : decode m_P_wrongAt.2.1 155 = .ok (.bipush 12, 2) := by decide +kernel
theorem d_P_wrongAt_157 : decode m_P_wrongAt.2.1 157 = .ok (.aload_n 0, 1) := by decide +kernel
theorem d_P_wrongAt_158 : decode m_P_wrongAt.2.1 158 = .ok (.getfield 48, 3) := by decide +kernel
theorem d_P_wrongAt_161 : decode m_P_wrongAt.2.1 161 = .ok (.iload_n 3, 1) := by decide +kernel
theorem d_P_wrongAt_162 : decode m_P_wrongAt.2.1 162 = .ok (.iconst 1, 1) := by decide +kernel
theorem d_P_wrongAt_163 : decode m_P_wrongAt.2.1 163 = .ok (.isub, 1) := by decide +kernel
theorem d_P_wrongAt_164 : decode m_P_wrongAt.2.1 164 = .ok (.iaload, 1) := by decide +kernel
theorem d_P_wrongAt_165 : decode m_P_wrongAt.2.1 165 = .ok (.imul, 1) := by decide +kernel
theorem d_P_wrongAt_166 : decode m_P_wrongAt.2.1 166 = .ok (.bipush 6, 2) := by decide +kernel
theorem d_P_wrongAt_168 : decode m_P_wrongAt.2.1 168 = .ok (.iadd, 1) := by decide +kernel
theorem d_P_wrongAt_169 : decode m_P_wrongAt.2.1 169 = .ok (.aload_n 0, 1) := by decide +kernel
theorem d_P_wrongAt_170 : decode m_P_wrongAt.2.1 170 = .ok (.getfield 13, 3) := by decide +kernel
theorem d_P_wrongAt_173 : decode m_P_wrongAt.2.1 173 = .ok (.iload 8, 2) := by decide +kernel
theorem d_P_wrongAt_175 : decode m_P_wrongAt.2.1 175 = .ok (.iaload, 1) := by decide +kernel
theorem d_P_wrongAt_176 : decode m_P_wrongAt.2.1 176 = .ok (.iadd, 1) := by decide +kernel
theorem d_P_wrongAt_177 : decode m_P_wrongAt.2.1 177 = .ok (.iaload, 1) := by decide +kernel
theorem d_P_wrongAt_178 : decode m_P_wrongAt.2.1 178 = .ok (.iastore, 1) := by decide +kernel
theorem d_P_wrongAt_179 : decode m_P_wrongAt.2.1 179 = .ok (.goto (-167), 3) := by decide +kernel
theorem d_P_wrongAt_182 : decode m_P_wrongAt.2.1 182 = .ok (.iload_n 1, 1) := by decide +kernel
theorem d_P_wrongAt_183 : decode m_P_wrongAt.2.1 183 = .ok (.ireturn, 1) := by decide +kernel
theorem d_P_ended_0 : decode m_P_ended.2.1 0 = .ok (.iconst 0, 1) := by decide +kernel
theorem d_P_ended_1 : decode m_P_ended.2.1 1 = .ok (.istore_n 3, 1) := by decide +kernel
theorem d_P_ended_2 : decode m_P_ended.2.1 2 = .ok (.iload_n 3, 1) := by decide +kernel
theorem d_P_ended_3 : decode m_P_ended.2.1 3 = .ok (.bipush 11, 2) := by decide +kernel
theorem d_P_ended_5 : decode m_P_ended.2.1 5 = .ok (.if_icmp .ge 39, 3) := by decide +kernel
theorem d_P_ended_8 : decode m_P_ended.2.1 8 = .ok (.aload_n 0, 1) := by decide +kernel
theorem d_P_ended_9 : decode m_P_ended.2.1 9 = .ok (.getfield 36, 3) := by decide +kernel
theorem d_P_ended_12 : decode m_P_ended.2.1 12 = .ok (.bipush 55, 2) := by decide +kernel
theorem d_P_ended_14 : decode m_P_ended.2.1 14 = .ok (.iload_n 1, 1) := by decide +kernel
theorem d_P_ended_15 : decode m_P_ended.2.1 15 = .ok (.imul, 1) := by decide +kernel
theorem d_P_ended_16 : decode m_P_ended.2.1 16 = .ok (.iconst 5, 1) := by decide +kernel
theorem d_P_ended_17 : decode m_P_ended.2.1 17 = .ok (.iload_n 3, 1) := by decide +kernel
theorem d_P_ended_18 : decode m_P_ended.2.1 18 = .ok (.imul, 1) := by decide +kernel
theorem d_P_ended_19 : decode m_P_ended.2.1 19 = .ok (.iadd, 1) := by decide +kernel
theorem d_P_ended_20 : decode m_P_ended.2.1 20 = .ok (.aload_n 0, 1) := by decide +kernel
theorem d_P_ended_21 : decode m_P_ended.2.1 21 = .ok (.getfield 17, 3) := by decide +kernel
theorem d_P_ended_24 : decode m_P_ended.2.1 24 = .ok (.iload_n 3, 1) := by decide +kernel
theorem d_P_ended_25 : decode m_P_ended.2.1 25 = .ok (.iaload, 1) := by decide +kernel
theorem d_P_ended_26 : decode m_P_ended.2.1 26 = .ok (.iadd, 1) := by decide +kernel
theorem d_P_ended_27 : decode m_P_ended.2.1 27 = .ok (.iaload, 1) := by decide +kernel
theorem d_P_ended_28 : decode m_P_ended.2.1 28 = .ok (.iload_n 2, 1) := by decide +kernel
theorem d_P_ended_29 : decode m_P_ended.2.1 29 = .ok (.ishr, 1) := by decide +kernel
theorem d_P_ended_30 : decode m_P_ended.2.1 30 = .ok (.iconst 1, 1) := by decide +kernel
theorem d_P_ended_31 : decode m_P_ended.2.1 31 = .ok (.iand, 1) := by decide +kernel
theorem d_P_ended_32 : decode m_P_ended.2.1 32 = .ok (.iconst 1, 1) := by decide +kernel
theorem d_P_ended_33 : decode m_P_ended.2.1 33 = .ok (.if_icmp .ne 5, 3) := by decide +kernel
theorem d_P_ended_36 : decode m_P_ended.2.1 36 = .ok (.iload_n 3, 1) := by decide +kernel
theorem d_P_ended_37 : decode m_P_ended.2.1 37 = .ok (.ireturn, 1) := by decide +kernel
theorem d_P_ended_38 : decode m_P_ended.2.1 38 = .ok (.iinc 3 1, 3) := by decide +kernel
theorem d_P_ended_41 : decode m_P_ended.2.1 41 = .ok (.goto (-39), 3) := by decide +kernel
theorem d_P_ended_44 : decode m_P_ended.2.1 44 = .ok (.iconst (-1), 1) := by decide +kernel
theorem d_P_ended_45 : decode m_P_ended.2.1 45 = .ok (.ireturn, 1) := by decide +kernel
theorem d_P_repair_0 : decode m_P_repair.2.1 0 = .ok (.aload_n 0, 1) := by decide +kernel
theorem d_P_repair_1 : decode m_P_repair.2.1 1 = .ok (.aload_n 0, 1) := by decide +kernel
theorem d_P_repair_2 : decode m_P_repair.2.1 2 = .ok (.getfield 93, 3) := by decide +kernel
theorem d_P_repair_5 : decode m_P_repair.2.1 5 = .ok (.ifCond .ne 7, 3) := by decide +kernel
theorem d_P_repair_8 : decode m_P_repair.2.1 8 = .ok (.iconst 1, 1) := by decide +kernel
theorem d_P_repair_9 : decode m_P_repair.2.1 9 = .ok (.goto 17, 3) := by decide +kernel
theorem d_P_repair_12 : decode m_P_repair.2.1 12 = .ok (.iload_n 1, 1) := by decide +kernel
theorem d_P_repair_13 : decode m_P_repair.2.1 13 = .ok (.ifCond .lt 8, 3) := by decide +kernel
theorem d_P_repair_16 : decode m_P_repair.2.1 16 = .ok (.iload_n 1, 1) := by decide +kernel
theorem d_P_repair_17 : decode m_P_repair.2.1 17 = .ok (.iconst 3, 1) := by decide +kernel
theorem d_P_repair_18 : decode m_P_repair.2.1 18 = .ok (.if_icmp .le 7, 3) := by decide +kernel
theorem d_P_repair_21 : decode m_P_repair.2.1 21 = .ok (.iconst 2, 1) := by decide +kernel
theorem d_P_repair_22 : decode m_P_repair.2.1 22 = .ok (.goto 4, 3) := by decide +kernel
theorem d_P_repair_25 : decode m_P_repair.2.1 25 = .ok (.iconst 0, 1) := by decide +kernel
theorem d_P_repair_26 : decode m_P_repair.2.1 26 = .ok (.putfield 66, 3) := by decide +kernel
theorem d_P_repair_29 : decode m_P_repair.2.1 29 = .ok (.aload_n 0, 1) := by decide +kernel
theorem d_P_repair_30 : decode m_P_repair.2.1 30 = .ok (.invokevirtual 96, 3) := by decide +kernel
theorem d_P_repair_33 : decode m_P_repair.2.1 33 = .ok (.aload_n 0, 1) := by decide +kernel
theorem d_P_repair_34 : decode m_P_repair.2.1 34 = .ok (.getfield 66, 3) := by decide +kernel
theorem d_P_repair_37 : decode m_P_repair.2.1 37 = .ok (.ifCond .le 5, 3) := by decide +kernel
theorem d_P_repair_40 : decode m_P_repair.2.1 40 = .ok (.iconst 0, 1) := by decide +kernel
theorem d_P_repair_41 : decode m_P_repair.2.1 41 = .ok (.ireturn, 1) := by decide +kernel
theorem d_P_repair_42 : decode m_P_repair.2.1 42 = .ok (.aload_n 0, 1) := by decide +kernel
theorem d_P_repair_43 : decode m_P_repair.2.1 43 = .ok (.aload_n 0, 1) := by decide +kernel
theorem d_P_repair_44 : decode m_P_repair.2.1 44 = .ok (.invokevirtual 142, 3) := by decide +kernel
theorem d_P_repair_47 : decode m_P_repair.2.1 47 = .ok (.putfield 146, 3) := by decide +kernel
theorem d_P_repair_50 : decode m_P_repair.2.1 50 = .ok (.aload_n 0, 1) := by decide +kernel
theorem d_P_repair_51 : decode m_P_repair.2.1 51 = .ok (.getfield 146, 3) := by decide +kernel
theorem d_P_repair_54 : decode m_P_repair.2.1 54 = .ok (.ifCond .ge 5, 3) := by decide +kernel
theorem d_P_repair_57 : decode m_P_repair.2.1 57 = .ok (.iconst 0, 1) := by decide +kernel
theorem d_P_repair_58 : decode m_P_repair.2.1 58 = .ok (.ireturn, 1) := by decide +kernel
theorem d_P_repair_59 : decode m_P_repair.2.1 59 = .ok (.iconst 1, 1) := by decide +kernel
theorem d_P_repair_60 : decode m_P_repair.2.1 60 = .ok (.istore_n 2, 1) := by decide +kernel
theorem d_P_repair_61 : decode m_P_repair.2.1 61 = .ok (.iload_n 2, 1) := by decide +kernel
theorem d_P_repair_62 : decode m_P_repair.2.1 62 = .ok (.iconst 4, 1) := by decide +kernel
theorem d_P_repair_63 : decode m_P_repair.2.1 63 = .ok (.if_icmp .ge 38, 3) := by decide +kernel
theorem d_P_repair_66 : decode m_P_repair.2.1 66 = .ok (.aload_n 0, 1) := by decide +kernel
theorem d_P_repair_67 : decode m_P_repair.2.1 67 = .ok (.getfield 73, 3) := by decide +kernel
theorem d_P_repair_70 : decode m_P_repair.2.1 70 = .ok (.ifCond .ne 31, 3) := by decide +kernel
theorem d_P_repair_73 : decode m_P_repair.2.1 73 = .ok (.aload_n 0, 1) := by decide +kernel
theorem d_P_repair_74 : decode m_P_repair.2.1 74 = .ok (.iload_n 2, 1) := by decide +kernel
theorem d_P_repair_75 : decode m_P_repair.2.1 75 = .ok (.iload_n 1, 1) := by decide +kernel
theorem d_P_repair_76 : decode m_P_repair.2.1 76 = .ok (.invokevirtual 162, 3) := by decide +kernel
theorem d_P_repair_79 : decode m_P_repair.2.1 79 = .ok (.aload_n 0, 1) := by decide +kernel
theorem d_P_repair_80 : decode m_P_repair.2.1 80 = .ok (.aload_n 0, 1) := by decide +kernel
theorem d_P_repair_81 : decode m_P_repair.2.1 81 = .ok (.getfield 73, 3) := by decide +kernel
theorem d_P_repair_84 : decode m_P_repair.2.1 84 = .ok (.ifCond .le 7, 3) := by decide +kernel
theorem d_P_repair_87 : decode m_P_repair.2.1 87 = .ok (.iload_n 2, 1) := by decide +kernel
theorem d_P_repair_88 : decode m_P_repair.2.1 88 = .ok (.goto 4, 3) := by decide +kernel
theorem d_P_repair_91 : decode m_P_repair.2.1 91 = .ok (.iconst 0, 1) := by decide +kernel
theorem d_P_repair_92 : decode m_P_repair.2.1 92 = .ok (.putfield 76, 3) := by decide +kernel
theorem d_P_repair_95 : decode m_P_repair.2.1 95 = .ok (.iinc 2 1, 3) := by decide +kernel
theorem d_P_repair_98 : decode m_P_repair.2.1 98 = .ok (.goto (-37), 3) := by decide +kernel
theorem d_P_repair_101 : decode m_P_repair.2.1 101 = .ok (.aload_n 0, 1) := by decide +kernel
theorem d_P_repair_102 : decode m_P_repair.2.1 102 = .ok (.getfield 73, 3) := by decide +kernel
theorem d_P_repair_105 : decode m_P_repair.2.1 105 = .ok (.bipush 40, 2) := by decide +kernel
theorem d_P_repair_107 : decode m_P_repair.2.1 107 = .ok (.if_icmp .le 13, 3) := by decide +kernel
theorem d_P_repair_110 : decode m_P_repair.2.1 110 = .ok (.aload_n 0, 1) := by decide +kernel
theorem d_P_repair_111 : decode m_P_repair.2.1 111 = .ok (.invokevirtual 96, 3) := by decide +kernel
theorem d_P_repair_114 : decode m_P_repair.2.1 114 = .ok (.aload_n 0, 1) := by decide +kernel
theorem d_P_repair_115 : decode m_P_repair.2.1 115 = .ok (.iconst 3, 1) := by decide +kernel
theorem d_P_repair_116 : decode m_P_repair.2.1 116 = .ok (.invokevirtual 86, 3) := by decide +kernel
theorem d_P_repair_119 : decode m_P_repair.2.1 119 = .ok (.ireturn, 1) := by decide +kernel
theorem d_P_repair_120 : decode m_P_repair.2.1 120 = .ok (.aload_n 0, 1) := by decide +kernel
theorem d_P_repair_121 : decode m_P_repair.2.1 121 = .ok (.getfield 73, 3) := by decide +kernel
theorem d_P_repair_124 : decode m_P_repair.2.1 124 = .ok (.ireturn, 1) := by decide +kernel
theorem d_P_search_0 : decode m_P_search.2.1 0 = .ok (.iconst 1, 1) := by decide +kernel
theorem d_P_search_1 : decode m_P_search.2.1 1 = .ok (.istore_n 3, 1) := by decide +kernel
theorem d_P_search_2 : decode m_P_search.2.1 2 = .ok (.aload_n 0, 1) := by decide +kernel
theorem d_P_search_3 : decode m_P_search.2.1 3 = .ok (.getfield 63, 3) := by decide +kernel
theorem d_P_search_6 : decode m_P_search.2.1 6 = .ok (.iconst 0, 1) := by decide +kernel
theorem d_P_search_7 : decode m_P_search.2.1 7 = .ok (.iconst (-1), 1) := by decide +kernel
theorem d_P_search_8 : decode m_P_search.2.1 8 = .ok (.iastore, 1) := by decide +kernel
theorem d_P_search_9 : decode m_P_search.2.1 9 = .ok (.iload_n 3, 1) := by decide +kernel
theorem d_P_search_10 : decode m_P_search.2.1 10 = .ok (.ifCond .le 145, 3) := by decide +kernel
theorem d_P_search_13 : decode m_P_search.2.1 13 = .ok (.aload_n 0, 1) := by decide +kernel
theorem d_P_search_14 : decode m_P_search.2.1 14 = .ok (.getfield 63, 3) := by decide +kernel
theorem d_P_search_17 : decode m_P_search.2.1 17 = .ok (.iload_n 3, 1) := by decide +kernel
theorem d_P_search_18 : decode m_P_search.2.1 18 = .ok (.iconst 1, 1) := by decide +kernel
theorem d_P_search_19 : decode m_P_search.2.1 19 = .ok (.isub, 1) := by decide +kernel
theorem d_P_search_20 : decode m_P_search.2.1 20 = .ok (.dup2, 1) := by decide +kernel
theorem d_P_search_21 : decode m_P_search.2.1 21 = .ok (.iaload, 1) := by decide +kernel
theorem d_P_search_22 : decode m_P_search.2.1 22 = .ok (.iconst 1, 1) := by decide +kernel
theorem d_P_search_23 : decode m_P_search.2.1 23 = .ok (.iadd, 1) := by decide +kernel
theorem d_P_search_24 : decode m_P_search.2.1 24 = .ok (.iastore, 1) := by decide +kernel
theorem d_P_search_25 : decode m_P_search.2.1 25 = .ok (.aload_n 0, 1) := by decide +kernel
theorem d_P_search_26 : decode m_P_search.2.1 26 = .ok (.getfield 63, 3) := by decide +kernel
theorem d_P_search_29 : decode m_P_search.2.1 29 = .ok (.iload_n 3, 1) := by decide +kernel
theorem d_P_search_30 : decode m_P_search.2.1 30 = .ok (.iconst 1, 1) := by decide +kernel
theorem d_P_search_31 : decode m_P_search.2.1 31 = .ok (.isub, 1) := by decide +kernel
theorem d_P_search_32 : decode m_P_search.2.1 32 = .ok (.iaload, 1) := by decide +kernel
theorem d_P_search_33 : decode m_P_search.2.1 33 = .ok (.bipush 7, 2) := by decide +kernel
theorem d_P_search_35 : decode m_P_search.2.1 35 = .ok (.if_icmp .le 9, 3) := by decide +kernel
theorem d_P_search_38 : decode m_P_search.2.1 38 = .ok (.iinc 3 (-1), 3) := by decide +kernel
theorem d_P_search_41 : decode m_P_search.2.1 41 = .ok (.goto (-32), 3) := by decide +kernel
theorem d_P_search_44 : decode m_P_search.2.1 44 = .ok (.aload_n 0, 1) := by decide +kernel
theorem d_P_search_45 : decode m_P_search.2.1 45 = .ok (.iload_n 3, 1) := by decide +kernel
theorem d_P_search_46 : decode m_P_search.2.1 46 = .ok (.invokevirtual 155, 3) := by decide +kernel
theorem d_P_search_49 : decode m_P_search.2.1 49 = .ok (.istore 4, 2) := by decide +kernel
theorem d_P_search_51 : decode m_P_search.2.1 51 = .ok (.iload 4, 2) := by decide +kernel
theorem d_P_search_53 : decode m_P_search.2.1 53 = .ok (.ifCond .lt 42, 3) := by decide +kernel
theorem d_P_search_56 : decode m_P_search.2.1 56 = .ok (.iload 4, 2) := by decide +kernel
theorem d_P_search_58 : decode m_P_search.2.1 58 = .ok (.iload_n 1, 1) := by decide +kernel
theorem d_P_search_59 : decode m_P_search.2.1 59 = .ok (.if_icmp .gt 36, 3) := by decide +kernel
theorem d_P_search_62 : decode m_P_search.2.1 62 = .ok (.aload_n 0, 1) := by decide +kernel
theorem d_P_search_63 : decode m_P_search.2.1 63 = .ok (.getfield 63, 3) := by decide +kernel
theorem d_P_search_66 : decode m_P_search.2.1 66 = .ok (.iload_n 3, 1) := by decide +kernel
theorem d_P_search_67 : decode m_P_search.2.1 67 = .ok (.iconst 1, 1) := by decide +kernel
theorem d_P_search_68 : decode m_P_search.2.1 68 = .ok (.isub, 1) := by decide +kernel
theorem d_P_search_69 : decode m_P_search.2.1 69 = .ok (.iaload, 1) := by decide +kernel
theorem d_P_search_70 : decode m_P_search.2.1 70 = .ok (.bipush 6, 2) := by decide +kernel
theorem d_P_search_72 : decode m_P_search.2.1 72 = .ok (.if_icmp .eq 19, 3) := by decide +kernel
theorem d_P_search_75 : decode m_P_search.2.1 75 = .ok (.aload_n 0, 1) := by decide +kernel
theorem d_P_search_76 : decode m_P_search.2.1 76 = .ok (.aload_n 0, 1) := by decide +kernel
theorem d_P_search_77 : decode m_P_search.2.1 77 = .ok (.getfield 149, 3) := by decide +kernel
theorem d_P_search_80 : decode m_P_search.2.1 80 = .ok (.iconst 0, 1) := by decide +kernel
theorem d_P_search_81 : decode m_P_search.2.1 81 = .ok (.invokevirtual 138, 3) := by decide +kernel
theorem d_P_search_84 : decode m_P_search.2.1 84 = .ok (.aload_n 0, 1) := by decide +kernel
theorem d_P_search_85 : decode m_P_search.2.1 85 = .ok (.getfield 149, 3) := by decide +kernel
theorem d_P_search_88 : decode m_P_search.2.1 88 = .ok (.if_icmp .ne 7, 3) := by decide +kernel
theorem d_P_search_91 : decode m_P_search.2.1 91 = .ok (.iconst 1, 1) := by decide +kernel
theorem d_P_search_92 : decode m_P_search.2.1 92 = .ok (.goto 4, 3) := by decide +kernel
theorem d_P_search_95 : decode m_P_search.2.1 95 = .ok (.iconst 0, 1) := by decide +kernel
theorem d_P_search_96 : decode m_P_search.2.1 96 = .ok (.istore 5, 2) := by decide +kernel
theorem d_P_search_98 : decode m_P_search.2.1 98 = .ok (.iload 5, 2) := by decide +kernel
theorem d_P_search_100 : decode m_P_search.2.1 100 = .ok (.ifCond .eq 31, 3) := by decide +kernel
theorem d_P_search_103 : decode m_P_search.2.1 103 = .ok (.iload 4, 2) := by decide +kernel
theorem d_P_search_105 : decode m_P_search.2.1 105 = .ok (.iload_n 1, 1) := by decide +kernel
theorem d_P_search_106 : decode m_P_search.2.1 106 = .ok (.if_icmp .ne 25, 3) := by decide +kernel
theorem d_P_search_109 : decode m_P_search.2.1 109 = .ok (.aload_n 0, 1) := by decide +kernel
theorem d_P_search_110 : decode m_P_search.2.1 110 = .ok (.getfield 63, 3) := by decide +kernel
theorem d_P_search_113 : decode m_P_search.2.1 113 = .ok (.iload_n 3, 1) := by decide +kernel
theorem d_P_search_114 : decode m_P_search.2.1 114 = .ok (.iconst 1, 1) := by decide +kernel
theorem d_P_search_115 : decode m_P_search.2.1 115 = .ok (.isub, 1) := by decide +kernel
theorem d_P_search_116 : decode m_P_search.2.1 116 = .ok (.iaload, 1) := by decide +kernel
theorem d_P_search_117 : decode m_P_search.2.1 117 = .ok (.bipush 7, 2) := by decide +kernel
theorem d_P_search_119 : decode m_P_search.2.1 119 = .ok (.if_icmp .eq 33, 3) := by decide +kernel
theorem d_P_search_122 : decode m_P_search.2.1 122 = .ok (.aload_n 0, 1) := by decide +kernel
theorem d_P_search_123 : decode m_P_search.2.1 123 = .ok (.iload_n 3, 1) := by decide +kernel
theorem d_P_search_124 : decode m_P_search.2.1 124 = .ok (.iload_n 2, 1) := by decide +kernel
theorem d_P_search_125 : decode m_P_search.2.1 125 = .ok (.invokevirtual 158, 3) := by decide +kernel
theorem d_P_search_128 : decode m_P_search.2.1 128 = .ok (.goto 24, 3) := by decide +kernel
theorem d_P_search_131 : decode m_P_search.2.1 131 = .ok (.iload 5, 2) := by decide +kernel
theorem d_P_search_133 : decode m_P_search.2.1 133 = .ok (.ifCond .eq 19, 3) := by decide +kernel
theorem d_P_search_136 : decode m_P_search.2.1 136 = .ok (.iload_n 3, 1) := by decide +kernel
theorem d_P_search_137 : decode m_P_search.2.1 137 = .ok (.bipush 7, 2) := by decide +kernel
theorem d_P_search_139 : decode m_P_search.2.1 139 = .ok (.if_icmp .ge 13, 3) := by decide +kernel
theorem d_P_search_142 : decode m_P_search.2.1 142 = .ok (.aload_n 0, 1) := by decide +kernel
theorem d_P_search_143 : decode m_P_search.2.1 143 = .ok (.getfield 63, 3) := by decide +kernel
theorem d_P_search_146 : decode m_P_search.2.1 146 = .ok (.iload_n 3, 1) := by decide +kernel
theorem d_P_search_147 : decode m_P_search.2.1 147 = .ok (.iconst (-1), 1) := by decide +kernel
theorem d_P_search_148 : decode m_P_search.2.1 148 = .ok (.iastore, 1) := by decide +kernel
theorem d_P_search_149 : decode m_P_search.2.1 149 = .ok (.iinc 3 1, 3) := by decide +kernel
theorem d_P_search_152 : decode m_P_search.2.1 152 = .ok (.goto (-143), 3) := by decide +kernel
theorem d_P_search_155 : decode m_P_search.2.1 155 = .ok (.return_, 1) := by decide +kernel
theorem d_P_follows_0 : decode m_P_follows.2.1 0 = .ok (.aload_n 0, 1) := by decide +kernel
theorem d_P_follows_1 : decode m_P_follows.2.1 1 = .ok (.aload_n 0, 1) := by decide +kernel
theorem d_P_follows_2 : decode m_P_follows.2.1 2 = .ok (.getfield 146, 3) := by decide +kernel
theorem d_P_follows_5 : decode m_P_follows.2.1 5 = .ok (.putfield 149, 3) := by decide +kernel
theorem d_P_follows_8 : decode m_P_follows.2.1 8 = .ok (.aload_n 0, 1) := by decide +kernel
theorem d_P_follows_9 : decode m_P_follows.2.1 9 = .ok (.aload_n 0, 1) := by decide +kernel
theorem d_P_follows_10 : decode m_P_follows.2.1 10 = .ok (.getfield 146, 3) := by decide +kernel
theorem d_P_follows_13 : decode m_P_follows.2.1 13 = .ok (.putfield 152, 3) := by decide +kernel
theorem d_P_follows_16 : decode m_P_follows.2.1 16 = .ok (.iconst 0, 1) := by decide +kernel
theorem d_P_follows_17 : decode m_P_follows.2.1 17 = .ok (.istore_n 2, 1) := by decide +kernel
theorem d_P_follows_18 : decode m_P_follows.2.1 18 = .ok (.iconst 0, 1) := by decide +kernel
theorem d_P_follows_19 : decode m_P_follows.2.1 19 = .ok (.istore_n 3, 1) := by decide +kernel
theorem d_P_follows_20 : decode m_P_follows.2.1 20 = .ok (.iconst 0, 1) := by decide +kernel
theorem d_P_follows_21 : decode m_P_follows.2.1 21 = .ok (.istore 4, 2) := by decide +kernel
theorem d_P_follows_23 : decode m_P_follows.2.1 23 = .ok (.iload 4, 2) := by decide +kernel
theorem d_P_follows_25 : decode m_P_follows.2.1 25 = .ok (.aload_n 0, 1) := by decide +kernel
theorem d_P_follows_26 : decode m_P_follows.2.1 26 = .ok (.getfield 146, 3) := by decide +kernel
theorem d_P_follows_29 : decode m_P_follows.2.1 29 = .ok (.if_icmp .ge 23, 3) := by decide +kernel
theorem d_P_follows_32 : decode m_P_follows.2.1 32 = .ok (.aload_n 0, 1) := by decide +kernel
theorem d_P_follows_33 : decode m_P_follows.2.1 33 = .ok (.getfield 45, 3) := by decide +kernel
theorem d_P_follows_36 : decode m_P_follows.2.1 36 = .ok (.iload 4, 2) := by decide +kernel
theorem d_P_follows_38 : decode m_P_follows.2.1 38 = .ok (.aload_n 0, 1) := by decide +kernel
theorem d_P_follows_39 : decode m_P_follows.2.1 39 = .ok (.getfield 42, 3) := by decide +kernel
theorem d_P_follows_42 : decode m_P_follows.2.1 42 = .ok (.iload 4, 2) := by decide +kernel
theorem d_P_follows_44 : decode m_P_follows.2.1 44 = .ok (.iaload, 1) := by decide +kernel
theorem d_P_follows_45 : decode m_P_follows.2.1 45 = .ok (.iastore, 1) := by decide +kernel
theorem d_P_follows_46 : decode m_P_follows.2.1 46 = .ok (.iinc 4 1, 3) := by decide +kernel
theorem d_P_follows_49 : decode m_P_follows.2.1 49 = .ok (.goto (-26), 3) := by decide +kernel
theorem d_P_follows_52 : decode m_P_follows.2.1 52 = .ok (.iconst 0, 1) := by decide +kernel
theorem d_P_follows_53 : decode m_P_follows.2.1 53 = .ok (.istore 4, 2) := by decide +kernel
theorem d_P_follows_55 : decode m_P_follows.2.1 55 = .ok (.iload 4, 2) := by decide +kernel
theorem d_P_follows_57 : decode m_P_follows.2.1 57 = .ok (.iload_n 1, 1) := by decide +kernel
theorem d_P_follows_58 : decode m_P_follows.2.1 58 = .ok (.if_icmp .ge 195, 3) := by decide +kernel
theorem d_P_follows_61 : decode m_P_follows.2.1 61 = .ok (.aload_n 0, 1) := by decide +kernel
theorem d_P_follows_62 : decode m_P_follows.2.1 62 = .ok (.getfield 63, 3) := by decide +kernel
theorem d_P_follows_65 : decode m_P_follows.2.1 65 = .ok (.iload 4, 2) := by decide +kernel
theorem d_P_follows_67 : decode m_P_follows.2.1 67 = .ok (.iaload, 1) := by decide +kernel
theorem d_P_follows_68 : decode m_P_follows.2.1 68 = .ok (.istore 5, 2) := by decide +kernel
theorem d_P_follows_70 : decode m_P_follows.2.1 70 = .ok (.iload 5, 2) := by decide +kernel
theorem d_P_follows_72 : decode m_P_follows.2.1 72 = .ok (.bipush 6, 2) := by decide +kernel
theorem d_P_follows_74 : decode m_P_follows.2.1 74 = .ok (.if_icmp .lt 14, 3) := by decide +kernel
theorem d_P_follows_77 : decode m_P_follows.2.1 77 = .ok (.aload_n 0, 1) := by decide +kernel
theorem d_P_follows_78 : decode m_P_follows.2.1 78 = .ok (.getfield 152, 3) := by decide +kernel
theorem d_P_follows_81 : decode m_P_follows.2.1 81 = .ok (.aload_n 0, 1) := by decide +kernel
theorem d_P_follows_82 : decode m_P_follows.2.1 82 = .ok (.getfield 135, 3) := by decide +kernel
theorem d_P_follows_85 : decode m_P_follows.2.1 85 = .ok (.if_icmp .ge 29, 3) := by decide +kernel
theorem d_P_follows_88 : decode m_P_follows.2.1 88 = .ok (.iload 5, 2) := by decide +kernel
theorem d_P_follows_90 : decode m_P_follows.2.1 90 = .ok (.bipush 6, 2) := by decide +kernel
theorem d_P_follows_92 : decode m_P_follows.2.1 92 = .ok (.if_icmp .ge 24, 3) := by decide +kernel
theorem d_P_follows_95 : decode m_P_follows.2.1 95 = .ok (.iload 4, 2) := by decide +kernel
theorem d_P_follows_97 : decode m_P_follows.2.1 97 = .ok (.ifCond .le 19, 3) := by decide +kernel
theorem d_P_follows_100 : decode m_P_follows.2.1 100 = .ok (.aload_n 0, 1) := by decide +kernel
theorem d_P_follows_101 : decode m_P_follows.2.1 101 = .ok (.getfield 63, 3) := by decide +kernel
theorem d_P_follows_104 : decode m_P_follows.2.1 104 = .ok (.iload 4, 2) := by decide +kernel
theorem d_P_follows_106 : decode m_P_follows.2.1 106 = .ok (.iconst 1, 1) := by decide +kernel
theorem d_P_follows_107 : decode m_P_follows.2.1 107 = .ok (.isub, 1) := by decide +kernel
theorem d_P_follows_108 : decode m_P_follows.2.1 108 = .ok (.iaload, 1) := by decide +kernel
theorem d_P_follows_109 : decode m_P_follows.2.1 109 = .ok (.bipush 6, 2) := by decide +kernel
theorem d_P_follows_111 : decode m_P_follows.2.1 111 = .ok (.if_icmp .ne 5, 3) := by decide +kernel
theorem d_P_follows_114 : decode m_P_follows.2.1 114 = .ok (.iconst (-1), 1) := by decide +kernel
theorem d_P_follows_115 : decode m_P_follows.2.1 115 = .ok (.ireturn, 1) := by decide +kernel
theorem d_P_follows_116 : decode m_P_follows.2.1 116 = .ok (.iload_n 2, 1) := by decide +kernel
theorem d_P_follows_117 : decode m_P_follows.2.1 117 = .ok (.iload 5, 2) := by decide +kernel
theorem d_P_follows_119 : decode m_P_follows.2.1 119 = .ok (.bipush 6, 2) := by decide +kernel
theorem d_P_follows_121 : decode m_P_follows.2.1 121 = .ok (.if_icmp .ge 13, 3) := by decide +kernel
theorem d_P_follows_124 : decode m_P_follows.2.1 124 = .ok (.aload_n 0, 1) := by decide +kernel
theorem d_P_follows_125 : decode m_P_follows.2.1 125 = .ok (.getfield 51, 3) := by decide +kernel
theorem d_P_follows_128 : decode m_P_follows.2.1 128 = .ok (.iload 5, 2) := by decide +kernel
theorem d_P_follows_130 : decode m_P_follows.2.1 130 = .ok (.iaload, 1) := by decide +kernel
theorem d_P_follows_131 : decode m_P_follows.2.1 131 = .ok (.goto 28, 3) := by decide +kernel
theorem d_P_follows_134 : decode m_P_follows.2.1 134 = .ok (.iload 5, 2) := by decide +kernel
theorem d_P_follows_136 : decode m_P_follows.2.1 136 = .ok (.bipush 6, 2) := by decide +kernel
theorem d_P_follows_138 : decode m_P_follows.2.1 138 = .ok (.if_icmp .ne 20, 3) := by decide +kernel
theorem d_P_follows_141 : decode m_P_follows.2.1 141 = .ok (.aload_n 0, 1) := by decide +kernel
theorem d_P_follows_142 : decode m_P_follows.2.1 142 = .ok (.getfield 54, 3) := by decide +kernel
theorem d_P_follows_145 : decode m_P_follows.2.1 145 = .ok (.aload_n 0, 1) := by decide +kernel
theorem d_P_follows_146 : decode m_P_follows.2.1 146 = .ok (.getfield 42, 3) := by decide +kernel
theorem d_P_follows_149 : decode m_P_follows.2.1 149 = .ok (.aload_n 0, 1) := by decide +kernel
theorem d_P_follows_150 : decode m_P_follows.2.1 150 = .ok (.getfield 152, 3) := by decide +kernel
theorem d_P_follows_153 : decode m_P_follows.2.1 153 = .ok (.iaload, 1) := by decide +kernel
theorem d_P_follows_154 : decode m_P_follows.2.1 154 = .ok (.iaload, 1) := by decide +kernel
theorem d_P_follows_155 : decode m_P_follows.2.1 155 = .ok (.goto 4, 3) := by decide +kernel
theorem d_P_follows_158 : decode m_P_follows.2.1 158 = .ok (.iconst 0, 1) := by decide +kernel
theorem d_P_follows_159 : decode m_P_follows.2.1 159 = .ok (.iadd, 1) := by decide +kernel
theorem d_P_follows_160 : decode m_P_follows.2.1 160 = .ok (.istore_n 2, 1) := by decide +kernel
theorem d_P_follows_161 : decode m_P_follows.2.1 161 = .ok (.iload 5, 2) := by decide +kernel
theorem d_P_follows_163 : decode m_P_follows.2.1 163 = .ok (.bipush 7, 2) := by decide +kernel
theorem d_P_follows_165 : decode m_P_follows.2.1 165 = .ok (.if_icmp .ne 9, 3) := by decide +kernel
theorem d_P_follows_168 : decode m_P_follows.2.1 168 = .ok (.iload_n 3, 1) := by decide +kernel
theorem d_P_follows_169 : decode m_P_follows.2.1 169 = .ok (.iconst 1, 1) := by decide +kernel
theorem d_P_follows_170 : decode m_P_follows.2.1 170 = .ok (.iadd, 1) := by decide +kernel
theorem d_P_follows_171 : decode m_P_follows.2.1 171 = .ok (.goto 4, 3) := by decide +kernel
theorem d_P_follows_174 : decode m_P_follows.2.1 174 = .ok (.iload_n 3, 1) := by decide +kernel
theorem d_P_follows_175 : decode m_P_follows.2.1 175 = .ok (.istore_n 3, 1) := by decide +kernel
theorem d_P_follows_176 : decode m_P_follows.2.1 176 = .ok (.iload 5, 2) := by decide +kernel
theorem d_P_follows_178 : decode m_P_follows.2.1 178 = .ok (.bipush 6, 2) := by decide +kernel
theorem d_P_follows_180 : decode m_P_follows.2.1 180 = .ok (.if_icmp .eq 43, 3) := by decide +kernel
theorem d_P_follows_183 : decode m_P_follows.2.1 183 = .ok (.aload_n 0, 1) := by decide +kernel
theorem d_P_follows_184 : decode m_P_follows.2.1 184 = .ok (.getfield 45, 3) := by decide +kernel
theorem d_P_follows_187 : decode m_P_follows.2.1 187 = .ok (.aload_n 0, 1) := by decide +kernel
theorem d_P_follows_188 : decode m_P_follows.2.1 188 = .ok (.getfield 149, 3) := by decide +kernel
theorem d_P_follows_191 : decode m_P_follows.2.1 191 = .ok (.iload 5, 2) := by decide +kernel
theorem d_P_follows_193 : decode m_P_follows.2.1 193 = .ok (.bipush 6, 2) := by decide +kernel
theorem d_P_follows_195 : decode m_P_follows.2.1 195 = .ok (.if_icmp .ge 8, 3) := by decide +kernel
theorem d_P_follows_198 : decode m_P_follows.2.1 198 = .ok (.iload 5, 2) := by decide +kernel
theorem d_P_follows_200 : decode m_P_follows.2.1 200 = .ok (.goto 12, 3) := by decide +kernel
theorem d_P_follows_203 : decode m_P_follows.2.1 203 = .ok (.aload_n 0, 1) := by decide +kernel
theorem d_P_follows_204 : decode m_P_follows.2.1 204 = .ok (.getfield 42, 3) := by decide +kernel
theorem d_P_follows_207 : decode m_P_follows.2.1 207 = .ok (.aload_n 0, 1) := by decide +kernel
theorem d_P_follows_208 : decode m_P_follows.2.1 208 = .ok (.getfield 152, 3) := by decide +kernel
theorem d_P_follows_211 : decode m_P_follows.2.1 211 = .ok (.iaload, 1) := by decide +kernel
theorem d_P_follows_212 : decode m_P_follows.2.1 212 = .ok (.iastore, 1) := by decide +kernel
theorem d_P_follows_213 : decode m_P_follows.2.1 213 = .ok (.aload_n 0, 1) := by decide +kernel
theorem d_P_follows_214 : decode m_P_follows.2.1 214 = .ok (.dup, 1) := by decide +kernel
theorem d_P_follows_215 : decode m_P_follows.2.1 215 = .ok (.getfield 149, 3) := by decide +kernel
theorem d_P_follows_218 : decode m_P_follows.2.1 218 = .ok (.iconst 1, 1) := by decide +kernel
theorem d_P_follows_219 : decode m_P_follows.2.1 219 = .ok (.iadd, 1) := by decide +kernel
theorem d_P_follows_220 : decode m_P_follows.2.1 220 = .ok (.putfield 149, 3) := by decide +kernel
theorem d_P_follows_223 : decode m_P_follows.2.1 223 = .ok (.aload_n 0, 1) := by decide +kernel
theorem d_P_follows_224 : decode m_P_follows.2.1 224 = .ok (.iload 5, 2) := by decide +kernel
theorem d_P_follows_226 : decode m_P_follows.2.1 226 = .ok (.bipush 6, 2) := by decide +kernel
theorem d_P_follows_228 : decode m_P_follows.2.1 228 = .ok (.if_icmp .lt 12, 3) := by decide +kernel
theorem d_P_follows_231 : decode m_P_follows.2.1 231 = .ok (.aload_n 0, 1) := by decide +kernel
theorem d_P_follows_232 : decode m_P_follows.2.1 232 = .ok (.getfield 152, 3) := by decide +kernel
theorem d_P_follows_235 : decode m_P_follows.2.1 235 = .ok (.iconst 1, 1) := by decide +kernel
theorem d_P_follows_236 : decode m_P_follows.2.1 236 = .ok (.iadd, 1) := by decide +kernel
theorem d_P_follows_237 : decode m_P_follows.2.1 237 = .ok (.goto 7, 3) := by decide +kernel
theorem d_P_follows_240 : decode m_P_follows.2.1 240 = .ok (.aload_n 0, 1) := by decide +kernel
theorem d_P_follows_241 : decode m_P_follows.2.1 241 = .ok (.getfield 152, 3) := by decide +kernel
theorem d_P_follows_244 : decode m_P_follows.2.1 244 = .ok (.putfield 152, 3) := by decide +kernel
theorem d_P_follows_247 : decode m_P_follows.2.1 247 = .ok (.iinc 4 1, 3) := by decide +kernel
theorem d_P_follows_250 : decode m_P_follows.2.1 250 = .ok (.goto (-195), 3) := by decide +kernel
theorem d_P_follows_253 : decode m_P_follows.2.1 253 = .ok (.iload_n 3, 1) := by decide +kernel
theorem d_P_follows_254 : decode m_P_follows.2.1 254 = .ok (.iconst 3, 1) := by decide +kernel
theorem d_P_follows_255 : decode m_P_follows.2.1 255 = .ok (.if_icmp .le 7, 3) := by decide +kernel
theorem d_P_follows_258 : decode m_P_follows.2.1 258 = .ok (.iconst (-1), 1) := by decide +kernel
theorem d_P_follows_259 : decode m_P_follows.2.1 259 = .ok (.goto 4, 3) := by decide +kernel
theorem d_P_follows_262 : decode m_P_follows.2.1 262 = .ok (.iload_n 2, 1) := by decide +kernel
theorem d_P_follows_263 : decode m_P_follows.2.1 263 = .ok (.ireturn, 1) := by decide +kernel
